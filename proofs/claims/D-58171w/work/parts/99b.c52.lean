set_option maxHeartbeats 8000000 in
set_option maxRecDepth 100000 in
theorem lc_pointOf {p : Program} {e : Env} {s : State} {m : MethodId} {below : List Frame} {meth : Method} {c : Code} {l : Launch} {D : kG} {b L c0 c1 x1 mm out outD : Nat} {xs : Nat → Int32} {Q : State → Prop} (C0 : lwC D p l s m meth c b L c0 c1 out outD xs) {j : Nat} (hj : 3 * j + 3 ≤ L) {S : Ls} {gap : Int} {sn : Option Sg} {hs : List Sg} {t : List Int} {H : Heap} {locs : List Loc} {ls : Array Slot} (I0 : lwI D s b c0 c1 x1 mm out outD j j (S, gap) sn hs t H locs ls) {cells slots : Nat} (hcl : cells + 50000 ≤ 1200144) (hsl9 : slots + 228000 ≤ 5496058) (kk : ∀ (σ : Sg) (sn : Option Sg) (hs : List Sg) (t : List Int) (H : Heap) (locs : List Loc) (ls : Array Slot), lwI D s b c0 c1 x1 mm out outD j (j + 1) σ sn hs t H locs ls → W p l e lwR s m #[Value.ref b] below meth c H locs (cells + 50000) (slots + 228000) Q (F0 m 2493 ls [])) : W p l e lwR s m #[Value.ref b] below meth c H locs cells slots Q (F0 m 877 ls []) := by
  obtain ⟨hx, hb, hml, hown, hts, hlk, hK, hl9, hX, hbl, hbs, hL72, hc0, hco, hod, hdc⟩ := C0
  obtain ⟨hS, hl, hW, hM, ⟨go, hA_out⟩, ⟨gd, hA_outD⟩, hc1, htl⟩ := I0
  have hB : ∀ q, (kNW s.heap) q → kBase D ≤ q := fun q h => Nat.le_trans hK.size h
  have hbA : ¬ (kNW s.heap) b := fun h => by have h9 : s.heap.size ≤ b := h; omega
  have hd9 := hK.dis
  have hxE : ¬ kBase D ≤ D.2.2.2 2 := hK.tE.out
  obtain ⟨z1, hz1⟩ : ∃ z, z = (xs (3 * j + 1)).toInt := ⟨_, rfl⟩
  obtain ⟨z2, hz2⟩ : ∃ z, z = (xs (3 * j + 2)).toInt := ⟨_, rfl⟩
  have hr1 : -2147483648 ≤ z1 ∧ z1 ≤ 2147483647 := by rw [hz1]; exact i32r _
  have hr2 : -2147483648 ≤ z2 ∧ z2 ≤ 2147483647 := by rw [hz2]; exact i32r _
  obtain ⟨⟨st, la, ea, F⟩, sl, hl2, hi, es, bu, vb, hO_x1, hDq, hTx, hX5, hev, hAl, hDj, hPw, hsl, hsn, hhs⟩ := id hW
  subst hsn
  subst hhs
  obtain ⟨ra, sa, ka, ta, nh, ik, th, sp9, iw, le9, fi9, se9, g, gs, gk, gt, hO_mm, hA_ra, hA_sa, hA_ka, hA_ta, hMr, hMh, hMk, hMt, ht60, hMd, hMb, hMi⟩ := id hM
  have hMr : MRow g S gap := hMr
  have h0 := hAl _ List.mem_cons_self
  have hP_kState_st : kState D H st la ea gap S F := h0.1
  have hok : LsOK S gap := h0.2.1
  have hG : StG S := h0.2.2.1
  have hL8 : S.length ≤ 8 := hok.1
  have hgp := hok.2.1
  have hO_x1 : kO D H x1 0 [.ref st, va_rf ((sl.map (fun a => a.1.1)).head?), .ref hi, .ref bu] := hO_x1
  have hOw : ∀ q, kOwn D st la ea F S.length q → q ∉ [x1, hi, es, bu, vb] ∧ (q < c0 ∨ c1 ≤ q) := h0.2.2.2
  have hev : Hd (es ≠ vb) := hev
  have io_x1 : ∀ x, c0 ≤ x → x < c1 → x ≠ x1 := fun x => out_of (hX5 x1 (by simp)).2
  have io_hi : ∀ x, c0 ≤ x → x < c1 → x ≠ hi := fun x => out_of (hX5 hi (by simp)).2
  have io_es : ∀ x, c0 ≤ x → x < c1 → x ≠ es := fun x => out_of (hX5 es (by simp)).2
  have io_bu : ∀ x, c0 ≤ x → x < c1 → x ≠ bu := fun x => out_of (hX5 bu (by simp)).2
  have io_vb : ∀ x, c0 ≤ x → x < c1 → x ≠ vb := fun x => out_of (hX5 vb (by simp)).2
  have b_x1 := (hX5 x1 (by simp)).1
  have b_hi := (hX5 hi (by simp)).1
  have b_es := (hX5 es (by simp)).1
  have b_bu := (hX5 bu (by simp)).1
  have b_vb := (hX5 vb (by simp)).1
  obtain ⟨⟨⟨n1, n2, n3, n4⟩, n5, n6, n7⟩, n8, n9, n10⟩ := hMd
  have n_mm_ra : Hd (mm ≠ ra) := n1
  have n_mm_sa : Hd (mm ≠ sa) := n2
  have n_mm_ka : Hd (mm ≠ ka) := n3
  have n_mm_ta : Hd (mm ≠ ta) := n4
  have n_ra_sa : Hd (ra ≠ sa) := n5
  have n_ra_ka : Hd (ra ≠ ka) := n6
  have n_ra_ta : Hd (ra ≠ ta) := n7
  have n_sa_ka : Hd (sa ≠ ka) := n8
  have n_sa_ta : Hd (sa ≠ ta) := n9
  have n_ka_ta : Hd (ka ≠ ta) := n10
  have hMd : Hd (((mm ≠ ra ∧ mm ≠ sa ∧ mm ≠ ka ∧ mm ≠ ta) ∧ ra ≠ sa ∧ ra ≠ ka ∧ ra ≠ ta) ∧ sa ≠ ka ∧ sa ≠ ta ∧ ka ≠ ta) := ⟨⟨⟨n1, n2, n3, n4⟩, n5, n6, n7⟩, n8, n9, n10⟩
  clear n1 n2 n3 n4 n5 n6 n7 n8 n9 n10
  obtain ⟨b_mm, b_ra, b_sa, b_ka, b_ta⟩ := id hMb
  obtain ⟨i_mm, i_ra, i_sa, i_ka, i_ta⟩ := id hMi
  have b_out : kBase D ≤ out := by omega
  have hcc : c0 ≤ c1 := by omega
  have w_mm : mm < c1 := by omega
  have n_mm_out : Hd (mm ≠ out) := Nat.ne_of_lt i_mm.2
  have n_mm_outD : Hd (mm ≠ outD) := Nat.ne_of_lt (Nat.lt_trans i_mm.2 hod)
  have w_ra : ra < c1 := by omega
  have n_ra_out : Hd (ra ≠ out) := Nat.ne_of_lt i_ra.2
  have n_ra_outD : Hd (ra ≠ outD) := Nat.ne_of_lt (Nat.lt_trans i_ra.2 hod)
  have w_sa : sa < c1 := by omega
  have n_sa_out : Hd (sa ≠ out) := Nat.ne_of_lt i_sa.2
  have n_sa_outD : Hd (sa ≠ outD) := Nat.ne_of_lt (Nat.lt_trans i_sa.2 hod)
  have w_ka : ka < c1 := by omega
  have n_ka_out : Hd (ka ≠ out) := Nat.ne_of_lt i_ka.2
  have n_ka_outD : Hd (ka ≠ outD) := Nat.ne_of_lt (Nat.lt_trans i_ka.2 hod)
  have w_ta : ta < c1 := by omega
  have n_ta_out : Hd (ta ≠ out) := Nat.ne_of_lt i_ta.2
  have n_ta_outD : Hd (ta ≠ outD) := Nat.ne_of_lt (Nat.lt_trans i_ta.2 hod)
  have ge_mm : ∀ q, q = mm → kNW s.heap q := fun q h => by rw [h]; show s.heap.size ≤ mm; omega
  have ge_ra : ∀ q, q = ra → kNW s.heap q := fun q h => by rw [h]; show s.heap.size ≤ ra; omega
  have ge_sa : ∀ q, q = sa → kNW s.heap q := fun q h => by rw [h]; show s.heap.size ≤ sa; omega
  have ge_ka : ∀ q, q = ka → kNW s.heap q := fun q h => by rw [h]; show s.heap.size ≤ ka; omega
  have ge_ta : ∀ q, q = ta → kNW s.heap q := fun q h => by rw [h]; show s.heap.size ≤ ta; omega
  have ge_out : ∀ q, q = out → kNW s.heap q := fun q h => by rw [h]; show s.heap.size ≤ out; omega
  have n_out_outD : Hd (out ≠ outD) := Nat.ne_of_lt hod
  have w_out : out < c1 := by omega
  have w_outD : outD < c1 := hdc
  have i_outD : c0 ≤ outD := by omega
  have htyo : kTy D H out := Or.inr ⟨2, _, by decide, hA_out⟩
  have htyd : kTy D H outD := Or.inr ⟨3, _, by decide, hA_outD⟩
  have to_out : ∀ x, x = out → H.size ≤ x ∨ (kTy D H x ∧ c0 ≤ x ∧ x < c1) := fun x h => by rw [h]; exact Or.inr ⟨htyo, hco, w_out⟩
  have to_outD : ∀ x, x = outD → H.size ≤ x ∨ (kTy D H x ∧ c0 ≤ x ∧ x < c1) := fun x h => by rw [h]; exact Or.inr ⟨htyd, i_outD, w_outD⟩
  obtain ⟨⟨hO_st, mc9, hO_la⟩, hLs9, hLn9, hF9, hDs9, hb1, hb2, hb3⟩ := id hP_kState_st
  by_cases hA : 0 ≤ z1 ∧ z1 < (S.length : Int)
  · -- hA
    obtain ⟨ln9, hv1⟩ : ∃ k : Nat, z1 = (k : Int) := ⟨z1.toNat, by omega⟩
    have hln : ln9 < S.length := by omega
    have hLn := hok.ln hln
    by_cases hA2 : 0 ≤ z2 ∧ z2 ≤ (ln_n (st_ln S ln9) : Int)
    · -- hA2
      obtain ⟨pl9, hv2⟩ : ∃ k : Nat, z2 = (k : Int) := ⟨z2.toNat, by omega⟩
      have hpl : pl9 ≤ ln_n (st_ln S ln9) := by omega
      have hr9 := hLn.pos hpl
      have hrv : -2147483648 ≤ ln_pos (st_ln S ln9) pl9 ∧ ln_pos (st_ln S ln9) pl9 ≤ 2147483647 := ⟨by omega, by omega⟩
      refine lv_aload_n hx hb dL_law_877 rfl (lv_at hl 1 rfl) ?_
      refine lv_aload_n hx hb dL_law_878 rfl (lv_at hl 0 rfl) ?_
      refine lv_iload hx hb dL_law_879 (lv_at hl 5 rfl) ?_
      refine kx_iconst hx hb dL_law_881 ?_
      refine kx_iadd hx hb dL_law_882 ?_
      refine kx_sld (i := (((3 * j : Nat) : Int) + 1)) hx hb hX hbl hbA hS (3 * j + 1) (by omega) (by omega) (by omega) dL_law_883 ?_
      refine kx_eqi (((ln9 : Nat) : Int)) (hz1.symm.trans hv1) ?_
      refine lv_aload_n hx hb dL_law_884 rfl (lv_at hl 0 rfl) ?_
      refine lv_iload hx hb dL_law_885 (lv_at hl 5 rfl) ?_
      refine kx_iconst hx hb dL_law_887 ?_
      refine kx_iadd hx hb dL_law_888 ?_
      refine kx_sld (i := (((3 * j : Nat) : Int) + 2)) hx hb hX hbl hbA hS (3 * j + 2) (by omega) (by omega) (by omega) dL_law_889 ?_
      refine kx_eqi (((pl9 : Nat) : Int)) (hz2.symm.trans hv2) ?_
      refine lv_aload_n hx hb dL_law_890 rfl (lv_at hl 3 rfl) ?_
      refine kx_ci (vx_runSW (As := [.ref x1, .int (kI ((ln9 : Nat) : Int)), .int (kI ((pl9 : Nat) : Int)), .ref out]) (rest := []) ⟨hx, hb, hml, hown, hts⟩ (wr_pointOf l hl9 D H x1 ((sl.map (fun a => a.1.1)).head?) hi bu st la mc9 ea F S gap ln9 pl9 out go hO_x1 hO_st hO_la hLs9 hLn9 hA_out (by first | assumption | omega) (by first | assumption | omega) (by first | assumption | omega) (by first | assumption | omega) (by first | assumption | omega)) (vx_cwSW 4 hts (lw_SW q1945 q1946 q78 q1947) rfl rfl rfl (by decide +kernel) ⟨Nat.le_of_ble_eq_true rfl, Nat.le_of_ble_eq_true rfl⟩) (kx_ps hK hS hB) rfl rfl hl.1 rfl (lv_room (Nat.le_of_ble_eq_true rfl)) dL_law_891 ⟨by first | exact Nat.le_of_ble_eq_true rfl | omega | (dsimp only [lwR]; omega) | (show _ ≤ _; omega), by first | exact Nat.le_of_ble_eq_true rfl | omega | (dsimp only [lwR]; omega) | (show _ ≤ _; omega)⟩) hS (fun q _ h => (ge_out q) h) (fun q h => (ge_out q) h) (fun z_6 H_4 locs_1 hz_3 hF_5 hS_2 => ?_)
      have hzf_7 := hF_5.1
      obtain ⟨hv_8, ho_9⟩ := hz_3
      subst z_6
      refine lv_istore (lv' := [(6, .int (kI (0))), (0, .ref b), (1, .ref x1), (2, .ref mm), (3, .ref out), (4, .ref outD), (5, .int (kI ((3 * j : Nat) : Int)))]) hx hb dL_law_894 hl (by decide) rfl (fun ls hl => ?_)
      refine lv_aload_n hx hb dL_law_896 rfl (lv_at hl 3 rfl) ?_
      refine lv_aload_n hx hb dL_law_897 rfl (lv_at hl 1 rfl) ?_
      refine lv_iload hx hb dL_law_898 (lv_at hl 6 rfl) ?_
      refine kx_iconst hx hb dL_law_900 ?_
      refine kx_iadd hx hb dL_law_901 ?_
      refine kx_sld (i := (((3 * j : Nat) : Int) + 1)) hx hb hX hbl hbA hS_2 (3 * j + 1) (by omega) (by omega) (by omega) dL_law_902 ?_
      refine kx_eqi (((ln9 : Nat) : Int)) (hz1.symm.trans hv1) ?_
      refine lv_aload_n hx hb dL_law_903 rfl (lv_at hl 1 rfl) ?_
      refine lv_iload hx hb dL_law_904 (lv_at hl 6 rfl) ?_
      refine kx_iconst hx hb dL_law_906 ?_
      refine kx_iadd hx hb dL_law_907 ?_
      refine kx_sld (i := (((3 * j : Nat) : Int) + 2)) hx hb hX hbl hbA hS_2 (3 * j + 2) (by omega) (by omega) (by omega) dL_law_908 ?_
      refine kx_eqi (((pl9 : Nat) : Int)) (hz2.symm.trans hv2) ?_
      have h_10 := hO_mm.fr hF_5 (n_mm_out)
      have h_11 := hA_ra.fr hF_5 (n_ra_out)
      have h_12 := hA_sa.fr hF_5 (n_sa_out)
      have h_13 := hA_ka.fr hF_5 (n_ka_out)
      have h_14 := hA_ta.fr hF_5 (n_ta_out)
      have ty_mm : ∀ x, x = mm → H_4.size ≤ x ∨ (kTy D H_4 x ∧ c0 ≤ x ∧ x < c1) := fun x h => by rw [h]; exact Or.inr ⟨Or.inl ⟨2, _, by decide, by decide, by decide, h_10⟩, i_mm.1, w_mm⟩
      refine kx_ci (va_runV (As := [.int (kI ((ln9 : Nat) : Int)), .int (kI ((pl9 : Nat) : Int))]) (rest := []) ⟨hx, hb, hml, hown, hts⟩ (m_X3_pointOf l D H_4 mm ra sa ka ta nh ik t.length th sp9 iw le9 fi9 se9 g S gap ln9 pl9 h_10 h_11 (by first | assumption | omega) (by first | assumption | omega) n_mm_ra b_mm (by first | assumption | omega) (by first | assumption | omega)) (cwV 2 hts (lw_V q2463 q2464 q2465 q89 q2466) rfl rfl rfl (by decide +kernel) ⟨Nat.le_of_ble_eq_true rfl, Nat.le_of_ble_eq_true rfl⟩) (kx_pv hK hS_2 hB (kx_rc hK h_10 (C := RX3) (T := TX3) (N := 13) rfl)) rfl rfl hl.1 rfl (lv_room (Nat.le_of_ble_eq_true rfl)) dL_law_909 ⟨by first | exact Nat.le_of_ble_eq_true rfl | omega | (dsimp only [lwR]; omega) | (show _ ≤ _; omega), by first | exact Nat.le_of_ble_eq_true rfl | omega | (dsimp only [lwR]; omega) | (show _ ≤ _; omega)⟩) hS_2 (fun q _ h => (ge_mm q) h) (fun q h => (ge_mm q) h) (fun z_20 H_18 locs_15 hz_17 hF_19 hS_16 => ?_)
      have hzf_21 := hF_19.1
      obtain ⟨hv_22, ho_23⟩ := hz_17
      subst z_20
      refine lv_istore (lv' := [(7, .int (kI (ln_pos (st_ln S ln9) pl9))), (6, .int (kI (0))), (0, .ref b), (1, .ref x1), (2, .ref mm), (3, .ref out), (4, .ref outD), (5, .int (kI ((3 * j : Nat) : Int)))]) hx hb dL_law_912 hl (by decide) rfl (fun ls hl => ?_)
      refine lv_aload_n hx hb dL_law_914 rfl (lv_at hl 4 rfl) ?_
      refine kx_ci0 (va_runV (As := []) (rest := []) ⟨hx, hb, hml, hown, hts⟩ (m_X3_thrown l D H_18 mm ra sa ka ta nh ik t.length 0 sp9 iw le9 fi9 se9 ho_23 ) (cwV 0 hts (lw_V q2278 q2279 q2280 q89 q2281) rfl rfl rfl (by decide +kernel) ⟨Nat.le_of_ble_eq_true rfl, Nat.le_of_ble_eq_true rfl⟩) (kx_pv hK hS_16 hB (kx_rc hK ho_23 (C := RX3) (T := TX3) (N := 13) rfl)) rfl rfl hl.1 rfl (lv_room (Nat.le_of_ble_eq_true rfl)) dL_law_915 ⟨by first | exact Nat.le_of_ble_eq_true rfl | omega | (dsimp only [lwR]; omega) | (show _ ≤ _; omega), by first | exact Nat.le_of_ble_eq_true rfl | omega | (dsimp only [lwR]; omega) | (show _ ≤ _; omega)⟩) hS_16 (fun z_27 locs_24 hz_26 hS_25 => ?_)
      subst z_27
      refine lv_iload hx hb dL_law_918 (lv_at hl 1 rfl) ?_
      refine kx_icmp_eq (x := 0) (y := 0) (tgt := 925) hx hb dL_law_920 (by decide) (by omega) (by omega) (by omega) (by omega) (fun c_920_28 => ?_) (fun c_920_28 => ?_)
      · -- taken at 920
        refine lv_iload hx hb dL_law_925 (lv_at hl 1 rfl) ?_
        refine kx_if_ne (x := 0) (tgt := 942) hx hb dL_law_927 (by decide) (by omega) (by omega) (fun c_927_29 => ?_) (fun c_927_29 => ?_)
        · -- taken at 927
          exfalso; omega
        · -- not taken at 927
          refine lv_aload_n hx hb dL_law_930 rfl (lv_at hl 5 rfl) ?_
          refine kx_iconst hx hb dL_law_931 ?_
          have h_30 := ho_9.fr hF_19 (n_mm_out.sm)
          refine kx_lald (i := 0) hx hb hK h_30 0 rfl (by decide) (by decide) dL_law_932 ?_
          refine lv_iload hx hb dL_law_933 (lv_at hl 0 rfl) ?_
          refine kx_i2l hx hb (z := ln_pos (st_ln S ln9) pl9) (by omega) (by omega) dL_law_935 ?_
          refine kx_lcmpE hx hb (x := ((kup go 0 (kL (ln_pos (st_ln S ln9) pl9)))) 0) (y := kL (ln_pos (st_ln S ln9) pl9)) (kup_self _ _ _) dL_law_936 ?_
          refine kx_if_eq (x := 0) (tgt := 942) hx hb dL_law_937 (by decide) (by omega) (by omega) (fun c_937_31 => ?_) (fun c_937_31 => ?_)
          · -- taken at 937
            refine lv_goto (tgt := 2493) hx hb dL_law_942 (by decide) ?_
            have h_32 := h_11.fr hF_19 (n_mm_ra.sm)
            have h_33 := h_12.fr hF_19 (n_mm_sa.sm)
            have h_34 := h_13.fr hF_19 (n_mm_ka.sm)
            have h_35 := h_14.fr hF_19 (n_mm_ta.sm)
            have h_36 := hA_outD.fr hF_5 (n_out_outD.sm)
            have h_37 := h_36.fr hF_19 (n_mm_outD.sm)
            have h_38 := hW.fr hd9 hF_5 (fun x => (to_out x))
            have h_39 := h_38.fr hd9 hF_19 (fun x => (ty_mm x))
            refine W.widen (k := cells + 50000) (n := slots + 228000) (by omega) (by omega) ?_
            have hM9 : kM D H_18 c0 out mm (S, gap) ((sl.map Prod.snd).head?) (hl2.map Prod.snd) t := ⟨ra, sa, ka, ta, _, _, _, _, _, _, _, _, _, _, _, _, ho_23, h_32, h_33, h_34, h_35, hMr, hMh, hMk, hMt, ht60, hMd, hMb, hMi⟩
            exact kk (S, gap) ((sl.map Prod.snd).head?) (hl2.map Prod.snd) t _ _ _ ⟨hS_25, lv_sub hl [2, 3, 4, 5, 6, 7] rfl, h_39, hM9, ⟨_, h_30⟩, ⟨_, h_37⟩, by omega, by omega⟩
          · -- not taken at 937
            exfalso; omega
      · -- not taken at 920
        exfalso; omega
    · -- hA2
      refine lv_aload_n hx hb dL_law_877 rfl (lv_at hl 1 rfl) ?_
      refine lv_aload_n hx hb dL_law_878 rfl (lv_at hl 0 rfl) ?_
      refine lv_iload hx hb dL_law_879 (lv_at hl 5 rfl) ?_
      refine kx_iconst hx hb dL_law_881 ?_
      refine kx_iadd hx hb dL_law_882 ?_
      refine kx_sld (i := (((3 * j : Nat) : Int) + 1)) hx hb hX hbl hbA hS (3 * j + 1) (by omega) (by omega) (by omega) dL_law_883 ?_
      refine kx_eqi (((ln9 : Nat) : Int)) (hz1.symm.trans hv1) ?_
      refine lv_aload_n hx hb dL_law_884 rfl (lv_at hl 0 rfl) ?_
      refine lv_iload hx hb dL_law_885 (lv_at hl 5 rfl) ?_
      refine kx_iconst hx hb dL_law_887 ?_
      refine kx_iadd hx hb dL_law_888 ?_
      refine kx_sld (i := (((3 * j : Nat) : Int) + 2)) hx hb hX hbl hbA hS (3 * j + 2) (by omega) (by omega) (by omega) dL_law_889 ?_
      refine kx_eqi (z2) (hz2.symm) ?_
      refine lv_aload_n hx hb dL_law_890 rfl (lv_at hl 3 rfl) ?_
      refine kx_ci (vx_runSW (As := [.ref x1, .int (kI ((ln9 : Nat) : Int)), .int (kI (z2)), .ref out]) (rest := []) ⟨hx, hb, hml, hown, hts⟩ (wx_pointOf_n l hl9 D H x1 ((sl.map (fun a => a.1.1)).head?) hi bu st la mc9 ea F S gap ln9 z2 out hO_x1 hO_st hO_la hLs9 hLn9 (by first | assumption | omega) (by first | assumption | omega) (by first | assumption | omega) (by first | assumption | omega)) (vx_cwSW 4 hts (lw_SW q1945 q1946 q78 q1947) rfl rfl rfl (by decide +kernel) ⟨Nat.le_of_ble_eq_true rfl, Nat.le_of_ble_eq_true rfl⟩) (kx_ps hK hS hB) rfl rfl hl.1 rfl (lv_room (Nat.le_of_ble_eq_true rfl)) dL_law_891 ⟨by first | exact Nat.le_of_ble_eq_true rfl | omega | (dsimp only [lwR]; omega) | (show _ ≤ _; omega), by first | exact Nat.le_of_ble_eq_true rfl | omega | (dsimp only [lwR]; omega) | (show _ ≤ _; omega)⟩) hS (fun q _ h => by have h9 := hS.1; (try dsimp only at h); (try dsimp only); (try simp only [kNW] at h); (try simp only [kNW]); omega) (fun q h => by have h9 := hS.1; (try dsimp only at h); (try dsimp only); (try simp only [kNW] at h); (try simp only [kNW]); omega) (fun z_45 H_43 locs_40 hz_42 hF_44 hS_41 => ?_)
      have hzf_46 := hF_44.1
      have hF_44 := hF_44.nw
      obtain ⟨hv_47, hnw_48⟩ := hz_42
      subst z_45
      refine lv_istore (lv' := [(6, .int (kI (1))), (0, .ref b), (1, .ref x1), (2, .ref mm), (3, .ref out), (4, .ref outD), (5, .int (kI ((3 * j : Nat) : Int)))]) hx hb dL_law_894 hl (by decide) rfl (fun ls hl => ?_)
      refine lv_aload_n hx hb dL_law_896 rfl (lv_at hl 3 rfl) ?_
      refine lv_aload_n hx hb dL_law_897 rfl (lv_at hl 1 rfl) ?_
      refine lv_iload hx hb dL_law_898 (lv_at hl 6 rfl) ?_
      refine kx_iconst hx hb dL_law_900 ?_
      refine kx_iadd hx hb dL_law_901 ?_
      refine kx_sld (i := (((3 * j : Nat) : Int) + 1)) hx hb hX hbl hbA hS_41 (3 * j + 1) (by omega) (by omega) (by omega) dL_law_902 ?_
      refine kx_eqi (((ln9 : Nat) : Int)) (hz1.symm.trans hv1) ?_
      refine lv_aload_n hx hb dL_law_903 rfl (lv_at hl 1 rfl) ?_
      refine lv_iload hx hb dL_law_904 (lv_at hl 6 rfl) ?_
      refine kx_iconst hx hb dL_law_906 ?_
      refine kx_iadd hx hb dL_law_907 ?_
      refine kx_sld (i := (((3 * j : Nat) : Int) + 2)) hx hb hX hbl hbA hS_41 (3 * j + 2) (by omega) (by omega) (by omega) dL_law_908 ?_
      refine kx_eqi (z2) (hz2.symm) ?_
      have h_49 := hO_mm.ex hF_44
      have h_50 := hA_ra.ex hF_44
      have h_51 := hA_sa.ex hF_44
      have h_52 := hA_ka.ex hF_44
      have h_53 := hA_ta.ex hF_44
      have ty_mm : ∀ x, x = mm → H_43.size ≤ x ∨ (kTy D H_43 x ∧ c0 ≤ x ∧ x < c1) := fun x h => by rw [h]; exact Or.inr ⟨Or.inl ⟨2, _, by decide, by decide, by decide, h_49⟩, i_mm.1, w_mm⟩
      refine kx_ci (va_runV (As := [.int (kI ((ln9 : Nat) : Int)), .int (kI (z2))]) (rest := []) ⟨hx, hb, hml, hown, hts⟩ (m_X3_pointOf_no l D H_43 mm ra sa ka ta nh ik t.length th sp9 iw le9 fi9 se9 g S gap (((ln9 : Nat) : Int)) z2 h_49 h_50 (by first | assumption | omega) (by first | assumption | omega) n_mm_ra b_mm (by first | assumption | omega) (by first | assumption | omega) (by rw [Int.toNat_natCast]; exact fun h => hA2 h.2)) (cwV 2 hts (lw_V q2463 q2464 q2465 q89 q2466) rfl rfl rfl (by decide +kernel) ⟨Nat.le_of_ble_eq_true rfl, Nat.le_of_ble_eq_true rfl⟩) (kx_pv hK hS_41 hB (kx_rc hK h_49 (C := RX3) (T := TX3) (N := 13) rfl)) rfl rfl hl.1 rfl (lv_room (Nat.le_of_ble_eq_true rfl)) dL_law_909 ⟨by first | exact Nat.le_of_ble_eq_true rfl | omega | (dsimp only [lwR]; omega) | (show _ ≤ _; omega), by first | exact Nat.le_of_ble_eq_true rfl | omega | (dsimp only [lwR]; omega) | (show _ ≤ _; omega)⟩) hS_41 (fun q _ h => (ge_mm q) h) (fun q h => (ge_mm q) h) (fun z_59 H_57 locs_54 hz_56 hF_58 hS_55 => ?_)
      have hzf_60 := hF_58.1
      obtain ⟨hv_61, ho_62⟩ := hz_56
      subst z_59
      refine lv_istore (lv' := [(7, .int (kI (0))), (6, .int (kI (1))), (0, .ref b), (1, .ref x1), (2, .ref mm), (3, .ref out), (4, .ref outD), (5, .int (kI ((3 * j : Nat) : Int)))]) hx hb dL_law_912 hl (by decide) rfl (fun ls hl => ?_)
      refine lv_aload_n hx hb dL_law_914 rfl (lv_at hl 4 rfl) ?_
      refine kx_ci0 (va_runV (As := []) (rest := []) ⟨hx, hb, hml, hown, hts⟩ (m_X3_thrown l D H_57 mm ra sa ka ta nh ik t.length 1 sp9 iw le9 fi9 se9 ho_62 ) (cwV 0 hts (lw_V q2278 q2279 q2280 q89 q2281) rfl rfl rfl (by decide +kernel) ⟨Nat.le_of_ble_eq_true rfl, Nat.le_of_ble_eq_true rfl⟩) (kx_pv hK hS_55 hB (kx_rc hK ho_62 (C := RX3) (T := TX3) (N := 13) rfl)) rfl rfl hl.1 rfl (lv_room (Nat.le_of_ble_eq_true rfl)) dL_law_915 ⟨by first | exact Nat.le_of_ble_eq_true rfl | omega | (dsimp only [lwR]; omega) | (show _ ≤ _; omega), by first | exact Nat.le_of_ble_eq_true rfl | omega | (dsimp only [lwR]; omega) | (show _ ≤ _; omega)⟩) hS_55 (fun z_66 locs_63 hz_65 hS_64 => ?_)
      subst z_66
      refine lv_iload hx hb dL_law_918 (lv_at hl 1 rfl) ?_
      refine kx_icmp_eq (x := 1) (y := 1) (tgt := 925) hx hb dL_law_920 (by decide) (by omega) (by omega) (by omega) (by omega) (fun c_920_67 => ?_) (fun c_920_67 => ?_)
      · -- taken at 920
        refine lv_iload hx hb dL_law_925 (lv_at hl 1 rfl) ?_
        refine kx_if_ne (x := 1) (tgt := 942) hx hb dL_law_927 (by decide) (by omega) (by omega) (fun c_927_68 => ?_) (fun c_927_68 => ?_)
        · -- taken at 927
          refine lv_goto (tgt := 2493) hx hb dL_law_942 (by decide) ?_
          have h_69 := h_50.fr hF_58 (n_mm_ra.sm)
          have h_70 := h_51.fr hF_58 (n_mm_sa.sm)
          have h_71 := h_52.fr hF_58 (n_mm_ka.sm)
          have h_72 := h_53.fr hF_58 (n_mm_ta.sm)
          have h_73 := hA_out.ex hF_44
          have h_74 := h_73.fr hF_58 (n_mm_out.sm)
          have h_75 := hA_outD.ex hF_44
          have h_76 := h_75.fr hF_58 (n_mm_outD.sm)
          have h_77 := hW.ex hd9 hF_44
          have h_78 := h_77.fr hd9 hF_58 (fun x => (ty_mm x))
          refine W.widen (k := cells + 50000) (n := slots + 228000) (by omega) (by omega) ?_
          have hM9 : kM D H_57 c0 out mm (S, gap) ((sl.map Prod.snd).head?) (hl2.map Prod.snd) t := ⟨ra, sa, ka, ta, _, _, _, _, _, _, _, _, _, _, _, _, ho_62, h_69, h_70, h_71, h_72, hMr, hMh, hMk, hMt, ht60, hMd, hMb, hMi⟩
          exact kk (S, gap) ((sl.map Prod.snd).head?) (hl2.map Prod.snd) t _ _ _ ⟨hS_64, lv_sub hl [2, 3, 4, 5, 6, 7] rfl, h_78, hM9, ⟨_, h_74⟩, ⟨_, h_76⟩, by omega, by omega⟩
        · -- not taken at 927
          exfalso; omega
      · -- not taken at 920
        exfalso; omega
  · -- hA
    refine lv_aload_n hx hb dL_law_877 rfl (lv_at hl 1 rfl) ?_
    refine lv_aload_n hx hb dL_law_878 rfl (lv_at hl 0 rfl) ?_
    refine lv_iload hx hb dL_law_879 (lv_at hl 5 rfl) ?_
    refine kx_iconst hx hb dL_law_881 ?_
    refine kx_iadd hx hb dL_law_882 ?_
    refine kx_sld (i := (((3 * j : Nat) : Int) + 1)) hx hb hX hbl hbA hS (3 * j + 1) (by omega) (by omega) (by omega) dL_law_883 ?_
    refine kx_eqi (z1) (hz1.symm) ?_
    refine lv_aload_n hx hb dL_law_884 rfl (lv_at hl 0 rfl) ?_
    refine lv_iload hx hb dL_law_885 (lv_at hl 5 rfl) ?_
    refine kx_iconst hx hb dL_law_887 ?_
    refine kx_iadd hx hb dL_law_888 ?_
    refine kx_sld (i := (((3 * j : Nat) : Int) + 2)) hx hb hX hbl hbA hS (3 * j + 2) (by omega) (by omega) (by omega) dL_law_889 ?_
    refine kx_eqi (z2) (hz2.symm) ?_
    refine lv_aload_n hx hb dL_law_890 rfl (lv_at hl 3 rfl) ?_
    refine kx_ci (vx_runSW (As := [.ref x1, .int (kI (z1)), .int (kI (z2)), .ref out]) (rest := []) ⟨hx, hb, hml, hown, hts⟩ (wx_pointOf_l l hl9 D H x1 ((sl.map (fun a => a.1.1)).head?) hi bu st la mc9 ea F S gap z1 z2 out hO_x1 hO_st hO_la hLs9 hLn9 (by first | assumption | omega) (by first | assumption | omega) (by first | assumption | omega) (by first | assumption | omega)) (vx_cwSW 4 hts (lw_SW q1945 q1946 q78 q1947) rfl rfl rfl (by decide +kernel) ⟨Nat.le_of_ble_eq_true rfl, Nat.le_of_ble_eq_true rfl⟩) (kx_ps hK hS hB) rfl rfl hl.1 rfl (lv_room (Nat.le_of_ble_eq_true rfl)) dL_law_891 ⟨by first | exact Nat.le_of_ble_eq_true rfl | omega | (dsimp only [lwR]; omega) | (show _ ≤ _; omega), by first | exact Nat.le_of_ble_eq_true rfl | omega | (dsimp only [lwR]; omega) | (show _ ≤ _; omega)⟩) hS (fun q _ h => by have h9 := hS.1; (try dsimp only at h); (try dsimp only); (try simp only [kNW] at h); (try simp only [kNW]); omega) (fun q h => by have h9 := hS.1; (try dsimp only at h); (try dsimp only); (try simp only [kNW] at h); (try simp only [kNW]); omega) (fun z_84 H_82 locs_79 hz_81 hF_83 hS_80 => ?_)
    have hzf_85 := hF_83.1
    have hF_83 := hF_83.nw
    obtain ⟨hv_86, hnw_87⟩ := hz_81
    subst z_84
    refine lv_istore (lv' := [(6, .int (kI (1))), (0, .ref b), (1, .ref x1), (2, .ref mm), (3, .ref out), (4, .ref outD), (5, .int (kI ((3 * j : Nat) : Int)))]) hx hb dL_law_894 hl (by decide) rfl (fun ls hl => ?_)
    refine lv_aload_n hx hb dL_law_896 rfl (lv_at hl 3 rfl) ?_
    refine lv_aload_n hx hb dL_law_897 rfl (lv_at hl 1 rfl) ?_
    refine lv_iload hx hb dL_law_898 (lv_at hl 6 rfl) ?_
    refine kx_iconst hx hb dL_law_900 ?_
    refine kx_iadd hx hb dL_law_901 ?_
    refine kx_sld (i := (((3 * j : Nat) : Int) + 1)) hx hb hX hbl hbA hS_80 (3 * j + 1) (by omega) (by omega) (by omega) dL_law_902 ?_
    refine kx_eqi (z1) (hz1.symm) ?_
    refine lv_aload_n hx hb dL_law_903 rfl (lv_at hl 1 rfl) ?_
    refine lv_iload hx hb dL_law_904 (lv_at hl 6 rfl) ?_
    refine kx_iconst hx hb dL_law_906 ?_
    refine kx_iadd hx hb dL_law_907 ?_
    refine kx_sld (i := (((3 * j : Nat) : Int) + 2)) hx hb hX hbl hbA hS_80 (3 * j + 2) (by omega) (by omega) (by omega) dL_law_908 ?_
    refine kx_eqi (z2) (hz2.symm) ?_
    have h_88 := hO_mm.ex hF_83
    have h_89 := hA_ra.ex hF_83
    have h_90 := hA_sa.ex hF_83
    have h_91 := hA_ka.ex hF_83
    have h_92 := hA_ta.ex hF_83
    have ty_mm : ∀ x, x = mm → H_82.size ≤ x ∨ (kTy D H_82 x ∧ c0 ≤ x ∧ x < c1) := fun x h => by rw [h]; exact Or.inr ⟨Or.inl ⟨2, _, by decide, by decide, by decide, h_88⟩, i_mm.1, w_mm⟩
    refine kx_ci (va_runV (As := [.int (kI (z1)), .int (kI (z2))]) (rest := []) ⟨hx, hb, hml, hown, hts⟩ (m_X3_pointOf_no l D H_82 mm ra sa ka ta nh ik t.length th sp9 iw le9 fi9 se9 g S gap z1 z2 h_88 h_89 (by first | assumption | omega) (by first | assumption | omega) n_mm_ra b_mm (by first | assumption | omega) (by first | assumption | omega) (fun h => hA h.1)) (cwV 2 hts (lw_V q2463 q2464 q2465 q89 q2466) rfl rfl rfl (by decide +kernel) ⟨Nat.le_of_ble_eq_true rfl, Nat.le_of_ble_eq_true rfl⟩) (kx_pv hK hS_80 hB (kx_rc hK h_88 (C := RX3) (T := TX3) (N := 13) rfl)) rfl rfl hl.1 rfl (lv_room (Nat.le_of_ble_eq_true rfl)) dL_law_909 ⟨by first | exact Nat.le_of_ble_eq_true rfl | omega | (dsimp only [lwR]; omega) | (show _ ≤ _; omega), by first | exact Nat.le_of_ble_eq_true rfl | omega | (dsimp only [lwR]; omega) | (show _ ≤ _; omega)⟩) hS_80 (fun q _ h => (ge_mm q) h) (fun q h => (ge_mm q) h) (fun z_98 H_96 locs_93 hz_95 hF_97 hS_94 => ?_)
    have hzf_99 := hF_97.1
    obtain ⟨hv_100, ho_101⟩ := hz_95
    subst z_98
    refine lv_istore (lv' := [(7, .int (kI (0))), (6, .int (kI (1))), (0, .ref b), (1, .ref x1), (2, .ref mm), (3, .ref out), (4, .ref outD), (5, .int (kI ((3 * j : Nat) : Int)))]) hx hb dL_law_912 hl (by decide) rfl (fun ls hl => ?_)
    refine lv_aload_n hx hb dL_law_914 rfl (lv_at hl 4 rfl) ?_
    refine kx_ci0 (va_runV (As := []) (rest := []) ⟨hx, hb, hml, hown, hts⟩ (m_X3_thrown l D H_96 mm ra sa ka ta nh ik t.length 1 sp9 iw le9 fi9 se9 ho_101 ) (cwV 0 hts (lw_V q2278 q2279 q2280 q89 q2281) rfl rfl rfl (by decide +kernel) ⟨Nat.le_of_ble_eq_true rfl, Nat.le_of_ble_eq_true rfl⟩) (kx_pv hK hS_94 hB (kx_rc hK ho_101 (C := RX3) (T := TX3) (N := 13) rfl)) rfl rfl hl.1 rfl (lv_room (Nat.le_of_ble_eq_true rfl)) dL_law_915 ⟨by first | exact Nat.le_of_ble_eq_true rfl | omega | (dsimp only [lwR]; omega) | (show _ ≤ _; omega), by first | exact Nat.le_of_ble_eq_true rfl | omega | (dsimp only [lwR]; omega) | (show _ ≤ _; omega)⟩) hS_94 (fun z_105 locs_102 hz_104 hS_103 => ?_)
    subst z_105
    refine lv_iload hx hb dL_law_918 (lv_at hl 1 rfl) ?_
    refine kx_icmp_eq (x := 1) (y := 1) (tgt := 925) hx hb dL_law_920 (by decide) (by omega) (by omega) (by omega) (by omega) (fun c_920_106 => ?_) (fun c_920_106 => ?_)
    · -- taken at 920
      refine lv_iload hx hb dL_law_925 (lv_at hl 1 rfl) ?_
      refine kx_if_ne (x := 1) (tgt := 942) hx hb dL_law_927 (by decide) (by omega) (by omega) (fun c_927_107 => ?_) (fun c_927_107 => ?_)
      · -- taken at 927
        refine lv_goto (tgt := 2493) hx hb dL_law_942 (by decide) ?_
        have h_108 := h_89.fr hF_97 (n_mm_ra.sm)
        have h_109 := h_90.fr hF_97 (n_mm_sa.sm)
        have h_110 := h_91.fr hF_97 (n_mm_ka.sm)
        have h_111 := h_92.fr hF_97 (n_mm_ta.sm)
        have h_112 := hA_out.ex hF_83
        have h_113 := h_112.fr hF_97 (n_mm_out.sm)
        have h_114 := hA_outD.ex hF_83
        have h_115 := h_114.fr hF_97 (n_mm_outD.sm)
        have h_116 := hW.ex hd9 hF_83
        have h_117 := h_116.fr hd9 hF_97 (fun x => (ty_mm x))
        refine W.widen (k := cells + 50000) (n := slots + 228000) (by omega) (by omega) ?_
        have hM9 : kM D H_96 c0 out mm (S, gap) ((sl.map Prod.snd).head?) (hl2.map Prod.snd) t := ⟨ra, sa, ka, ta, _, _, _, _, _, _, _, _, _, _, _, _, ho_101, h_108, h_109, h_110, h_111, hMr, hMh, hMk, hMt, ht60, hMd, hMb, hMi⟩
        exact kk (S, gap) ((sl.map Prod.snd).head?) (hl2.map Prod.snd) t _ _ _ ⟨hS_103, lv_sub hl [2, 3, 4, 5, 6, 7] rfl, h_117, hM9, ⟨_, h_113⟩, ⟨_, h_115⟩, by omega, by omega⟩
      · -- not taken at 927
        exfalso; omega
    · -- not taken at 920
      exfalso; omega

set_option maxHeartbeats 8000000 in
set_option maxRecDepth 100000 in
theorem lc_bendAt {p : Program} {e : Env} {s : State} {m : MethodId} {below : List Frame} {meth : Method} {c : Code} {l : Launch} {D : kG} {b L c0 c1 x1 mm out outD : Nat} {xs : Nat → Int32} {Q : State → Prop} (C0 : lwC D p l s m meth c b L c0 c1 out outD xs) {j : Nat} (hj : 3 * j + 3 ≤ L) {S : Ls} {gap : Int} {sn : Option Sg} {hs : List Sg} {t : List Int} {H : Heap} {locs : List Loc} {ls : Array Slot} (I0 : lwI D s b c0 c1 x1 mm out outD j j (S, gap) sn hs t H locs ls) {cells slots : Nat} (hcl : cells + 50000 ≤ 1200144) (hsl9 : slots + 228000 ≤ 5496058) (kk : ∀ (σ : Sg) (sn : Option Sg) (hs : List Sg) (t : List Int) (H : Heap) (locs : List Loc) (ls : Array Slot), lwI D s b c0 c1 x1 mm out outD j (j + 1) σ sn hs t H locs ls → W p l e lwR s m #[Value.ref b] below meth c H locs (cells + 50000) (slots + 228000) Q (F0 m 2493 ls [])) : W p l e lwR s m #[Value.ref b] below meth c H locs cells slots Q (F0 m 1132 ls []) := by
  obtain ⟨hx, hb, hml, hown, hts, hlk, hK, hl9, hX, hbl, hbs, hL72, hc0, hco, hod, hdc⟩ := C0
  obtain ⟨hS, hl, hW, hM, ⟨go, hA_out⟩, ⟨gd, hA_outD⟩, hc1, htl⟩ := I0
  have hB : ∀ q, (kNW s.heap) q → kBase D ≤ q := fun q h => Nat.le_trans hK.size h
  have hbA : ¬ (kNW s.heap) b := fun h => by have h9 : s.heap.size ≤ b := h; omega
  have hd9 := hK.dis
  have hxE : ¬ kBase D ≤ D.2.2.2 2 := hK.tE.out
  obtain ⟨z1, hz1⟩ : ∃ z, z = (xs (3 * j + 1)).toInt := ⟨_, rfl⟩
  obtain ⟨z2, hz2⟩ : ∃ z, z = (xs (3 * j + 2)).toInt := ⟨_, rfl⟩
  have hr1 : -2147483648 ≤ z1 ∧ z1 ≤ 2147483647 := by rw [hz1]; exact i32r _
  have hr2 : -2147483648 ≤ z2 ∧ z2 ≤ 2147483647 := by rw [hz2]; exact i32r _
  obtain ⟨⟨st, la, ea, F⟩, sl, hl2, hi, es, bu, vb, hO_x1, hDq, hTx, hX5, hev, hAl, hDj, hPw, hsl, hsn, hhs⟩ := id hW
  subst hsn
  subst hhs
  obtain ⟨ra, sa, ka, ta, nh, ik, th, sp9, iw, le9, fi9, se9, g, gs, gk, gt, hO_mm, hA_ra, hA_sa, hA_ka, hA_ta, hMr, hMh, hMk, hMt, ht60, hMd, hMb, hMi⟩ := id hM
  have hMr : MRow g S gap := hMr
  have h0 := hAl _ List.mem_cons_self
  have hP_kState_st : kState D H st la ea gap S F := h0.1
  have hok : LsOK S gap := h0.2.1
  have hG : StG S := h0.2.2.1
  have hL8 : S.length ≤ 8 := hok.1
  have hgp := hok.2.1
  have hO_x1 : kO D H x1 0 [.ref st, va_rf ((sl.map (fun a => a.1.1)).head?), .ref hi, .ref bu] := hO_x1
  have hOw : ∀ q, kOwn D st la ea F S.length q → q ∉ [x1, hi, es, bu, vb] ∧ (q < c0 ∨ c1 ≤ q) := h0.2.2.2
  have hev : Hd (es ≠ vb) := hev
  have io_x1 : ∀ x, c0 ≤ x → x < c1 → x ≠ x1 := fun x => out_of (hX5 x1 (by simp)).2
  have io_hi : ∀ x, c0 ≤ x → x < c1 → x ≠ hi := fun x => out_of (hX5 hi (by simp)).2
  have io_es : ∀ x, c0 ≤ x → x < c1 → x ≠ es := fun x => out_of (hX5 es (by simp)).2
  have io_bu : ∀ x, c0 ≤ x → x < c1 → x ≠ bu := fun x => out_of (hX5 bu (by simp)).2
  have io_vb : ∀ x, c0 ≤ x → x < c1 → x ≠ vb := fun x => out_of (hX5 vb (by simp)).2
  have b_x1 := (hX5 x1 (by simp)).1
  have b_hi := (hX5 hi (by simp)).1
  have b_es := (hX5 es (by simp)).1
  have b_bu := (hX5 bu (by simp)).1
  have b_vb := (hX5 vb (by simp)).1
  obtain ⟨⟨⟨n1, n2, n3, n4⟩, n5, n6, n7⟩, n8, n9, n10⟩ := hMd
  have n_mm_ra : Hd (mm ≠ ra) := n1
  have n_mm_sa : Hd (mm ≠ sa) := n2
  have n_mm_ka : Hd (mm ≠ ka) := n3
  have n_mm_ta : Hd (mm ≠ ta) := n4
  have n_ra_sa : Hd (ra ≠ sa) := n5
  have n_ra_ka : Hd (ra ≠ ka) := n6
  have n_ra_ta : Hd (ra ≠ ta) := n7
  have n_sa_ka : Hd (sa ≠ ka) := n8
  have n_sa_ta : Hd (sa ≠ ta) := n9
  have n_ka_ta : Hd (ka ≠ ta) := n10
  have hMd : Hd (((mm ≠ ra ∧ mm ≠ sa ∧ mm ≠ ka ∧ mm ≠ ta) ∧ ra ≠ sa ∧ ra ≠ ka ∧ ra ≠ ta) ∧ sa ≠ ka ∧ sa ≠ ta ∧ ka ≠ ta) := ⟨⟨⟨n1, n2, n3, n4⟩, n5, n6, n7⟩, n8, n9, n10⟩
  clear n1 n2 n3 n4 n5 n6 n7 n8 n9 n10
  obtain ⟨b_mm, b_ra, b_sa, b_ka, b_ta⟩ := id hMb
  obtain ⟨i_mm, i_ra, i_sa, i_ka, i_ta⟩ := id hMi
  have b_out : kBase D ≤ out := by omega
  have hcc : c0 ≤ c1 := by omega
  have w_mm : mm < c1 := by omega
  have n_mm_out : Hd (mm ≠ out) := Nat.ne_of_lt i_mm.2
  have n_mm_outD : Hd (mm ≠ outD) := Nat.ne_of_lt (Nat.lt_trans i_mm.2 hod)
  have w_ra : ra < c1 := by omega
  have n_ra_out : Hd (ra ≠ out) := Nat.ne_of_lt i_ra.2
  have n_ra_outD : Hd (ra ≠ outD) := Nat.ne_of_lt (Nat.lt_trans i_ra.2 hod)
  have w_sa : sa < c1 := by omega
  have n_sa_out : Hd (sa ≠ out) := Nat.ne_of_lt i_sa.2
  have n_sa_outD : Hd (sa ≠ outD) := Nat.ne_of_lt (Nat.lt_trans i_sa.2 hod)
  have w_ka : ka < c1 := by omega
  have n_ka_out : Hd (ka ≠ out) := Nat.ne_of_lt i_ka.2
  have n_ka_outD : Hd (ka ≠ outD) := Nat.ne_of_lt (Nat.lt_trans i_ka.2 hod)
  have w_ta : ta < c1 := by omega
  have n_ta_out : Hd (ta ≠ out) := Nat.ne_of_lt i_ta.2
  have n_ta_outD : Hd (ta ≠ outD) := Nat.ne_of_lt (Nat.lt_trans i_ta.2 hod)
  have ge_mm : ∀ q, q = mm → kNW s.heap q := fun q h => by rw [h]; show s.heap.size ≤ mm; omega
  have ge_ra : ∀ q, q = ra → kNW s.heap q := fun q h => by rw [h]; show s.heap.size ≤ ra; omega
  have ge_sa : ∀ q, q = sa → kNW s.heap q := fun q h => by rw [h]; show s.heap.size ≤ sa; omega
  have ge_ka : ∀ q, q = ka → kNW s.heap q := fun q h => by rw [h]; show s.heap.size ≤ ka; omega
  have ge_ta : ∀ q, q = ta → kNW s.heap q := fun q h => by rw [h]; show s.heap.size ≤ ta; omega
  have ge_out : ∀ q, q = out → kNW s.heap q := fun q h => by rw [h]; show s.heap.size ≤ out; omega
  have n_out_outD : Hd (out ≠ outD) := Nat.ne_of_lt hod
  have w_out : out < c1 := by omega
  have w_outD : outD < c1 := hdc
  have i_outD : c0 ≤ outD := by omega
  have htyo : kTy D H out := Or.inr ⟨2, _, by decide, hA_out⟩
  have htyd : kTy D H outD := Or.inr ⟨3, _, by decide, hA_outD⟩
  have to_out : ∀ x, x = out → H.size ≤ x ∨ (kTy D H x ∧ c0 ≤ x ∧ x < c1) := fun x h => by rw [h]; exact Or.inr ⟨htyo, hco, w_out⟩
  have to_outD : ∀ x, x = outD → H.size ≤ x ∨ (kTy D H x ∧ c0 ≤ x ∧ x < c1) := fun x h => by rw [h]; exact Or.inr ⟨htyd, i_outD, w_outD⟩
  obtain ⟨⟨hO_st, mc9, hO_la⟩, hLs9, hLn9, hF9, hDs9, hb1, hb2, hb3⟩ := id hP_kState_st
  by_cases hA : 0 ≤ z1 ∧ z1 < (S.length : Int)
  · -- hA
    obtain ⟨ln9, hv1⟩ : ∃ k : Nat, z1 = (k : Int) := ⟨z1.toNat, by omega⟩
    have hln : ln9 < S.length := by omega
    have hLn := hok.ln hln
    by_cases hA2 : 0 ≤ z2 ∧ z2 ≤ (ln_n (st_ln S ln9) : Int)
    · -- hA2
      obtain ⟨pl9, hv2⟩ : ∃ k : Nat, z2 = (k : Int) := ⟨z2.toNat, by omega⟩
      have hpl : pl9 ≤ ln_n (st_ln S ln9) := by omega
      have hr9 := ln_bend_rng hLn hpl
      have hrv : -2147483648 ≤ ln_bend (st_ln S ln9) pl9 ∧ ln_bend (st_ln S ln9) pl9 ≤ 2147483647 := ⟨by omega, by omega⟩
      refine lv_aload_n hx hb dL_law_1132 rfl (lv_at hl 1 rfl) ?_
      refine lv_aload_n hx hb dL_law_1133 rfl (lv_at hl 0 rfl) ?_
      refine lv_iload hx hb dL_law_1134 (lv_at hl 5 rfl) ?_
      refine kx_iconst hx hb dL_law_1136 ?_
      refine kx_iadd hx hb dL_law_1137 ?_
      refine kx_sld (i := (((3 * j : Nat) : Int) + 1)) hx hb hX hbl hbA hS (3 * j + 1) (by omega) (by omega) (by omega) dL_law_1138 ?_
      refine kx_eqi (((ln9 : Nat) : Int)) (hz1.symm.trans hv1) ?_
      refine lv_aload_n hx hb dL_law_1139 rfl (lv_at hl 0 rfl) ?_
      refine lv_iload hx hb dL_law_1140 (lv_at hl 5 rfl) ?_
      refine kx_iconst hx hb dL_law_1142 ?_
      refine kx_iadd hx hb dL_law_1143 ?_
      refine kx_sld (i := (((3 * j : Nat) : Int) + 2)) hx hb hX hbl hbA hS (3 * j + 2) (by omega) (by omega) (by omega) dL_law_1144 ?_
      refine kx_eqi (((pl9 : Nat) : Int)) (hz2.symm.trans hv2) ?_
      refine lv_aload_n hx hb dL_law_1145 rfl (lv_at hl 3 rfl) ?_
      refine kx_ci (vx_runSW (As := [.ref x1, .int (kI ((ln9 : Nat) : Int)), .int (kI ((pl9 : Nat) : Int)), .ref out]) (rest := []) ⟨hx, hb, hml, hown, hts⟩ (wr_bendAt l hl9 D H x1 ((sl.map (fun a => a.1.1)).head?) hi bu st la mc9 ea F S gap ln9 pl9 out go hO_x1 hO_st hO_la hLs9 hLn9 hA_out (by first | assumption | omega) (by first | assumption | omega) (by first | assumption | omega) (by first | assumption | omega) (by first | assumption | omega)) (vx_cwSW 4 hts (lw_SW q1970 q1971 q78 q1972) rfl rfl rfl (by decide +kernel) ⟨Nat.le_of_ble_eq_true rfl, Nat.le_of_ble_eq_true rfl⟩) (kx_ps hK hS hB) rfl rfl hl.1 rfl (lv_room (Nat.le_of_ble_eq_true rfl)) dL_law_1146 ⟨by first | exact Nat.le_of_ble_eq_true rfl | omega | (dsimp only [lwR]; omega) | (show _ ≤ _; omega), by first | exact Nat.le_of_ble_eq_true rfl | omega | (dsimp only [lwR]; omega) | (show _ ≤ _; omega)⟩) hS (fun q _ h => (ge_out q) h) (fun q h => (ge_out q) h) (fun z_6 H_4 locs_1 hz_3 hF_5 hS_2 => ?_)
      have hzf_7 := hF_5.1
      obtain ⟨hv_8, ho_9⟩ := hz_3
      subst z_6
      refine lv_istore (lv' := [(6, .int (kI (0))), (0, .ref b), (1, .ref x1), (2, .ref mm), (3, .ref out), (4, .ref outD), (5, .int (kI ((3 * j : Nat) : Int)))]) hx hb dL_law_1149 hl (by decide) rfl (fun ls hl => ?_)
      refine lv_aload_n hx hb dL_law_1151 rfl (lv_at hl 3 rfl) ?_
      refine lv_aload_n hx hb dL_law_1152 rfl (lv_at hl 1 rfl) ?_
      refine lv_iload hx hb dL_law_1153 (lv_at hl 6 rfl) ?_
      refine kx_iconst hx hb dL_law_1155 ?_
      refine kx_iadd hx hb dL_law_1156 ?_
      refine kx_sld (i := (((3 * j : Nat) : Int) + 1)) hx hb hX hbl hbA hS_2 (3 * j + 1) (by omega) (by omega) (by omega) dL_law_1157 ?_
      refine kx_eqi (((ln9 : Nat) : Int)) (hz1.symm.trans hv1) ?_
      refine lv_aload_n hx hb dL_law_1158 rfl (lv_at hl 1 rfl) ?_
      refine lv_iload hx hb dL_law_1159 (lv_at hl 6 rfl) ?_
      refine kx_iconst hx hb dL_law_1161 ?_
      refine kx_iadd hx hb dL_law_1162 ?_
      refine kx_sld (i := (((3 * j : Nat) : Int) + 2)) hx hb hX hbl hbA hS_2 (3 * j + 2) (by omega) (by omega) (by omega) dL_law_1163 ?_
      refine kx_eqi (((pl9 : Nat) : Int)) (hz2.symm.trans hv2) ?_
      have h_10 := hO_mm.fr hF_5 (n_mm_out)
      have h_11 := hA_ra.fr hF_5 (n_ra_out)
      have h_12 := hA_sa.fr hF_5 (n_sa_out)
      have h_13 := hA_ka.fr hF_5 (n_ka_out)
      have h_14 := hA_ta.fr hF_5 (n_ta_out)
      have ty_mm : ∀ x, x = mm → H_4.size ≤ x ∨ (kTy D H_4 x ∧ c0 ≤ x ∧ x < c1) := fun x h => by rw [h]; exact Or.inr ⟨Or.inl ⟨2, _, by decide, by decide, by decide, h_10⟩, i_mm.1, w_mm⟩
      refine kx_ci (va_runV (As := [.int (kI ((ln9 : Nat) : Int)), .int (kI ((pl9 : Nat) : Int))]) (rest := []) ⟨hx, hb, hml, hown, hts⟩ (m_X3_bendAt l D H_4 mm ra sa ka ta nh ik t.length th sp9 iw le9 fi9 se9 g S gap ln9 pl9 h_10 h_11 (by first | assumption | omega) (by first | assumption | omega) n_mm_ra b_mm (by first | assumption | omega) (by first | assumption | omega)) (cwV 2 hts (lw_V q2487 q2488 q2489 q89 q2490) rfl rfl rfl (by decide +kernel) ⟨Nat.le_of_ble_eq_true rfl, Nat.le_of_ble_eq_true rfl⟩) (kx_pv hK hS_2 hB (kx_rc hK h_10 (C := RX3) (T := TX3) (N := 13) rfl)) rfl rfl hl.1 rfl (lv_room (Nat.le_of_ble_eq_true rfl)) dL_law_1164 ⟨by first | exact Nat.le_of_ble_eq_true rfl | omega | (dsimp only [lwR]; omega) | (show _ ≤ _; omega), by first | exact Nat.le_of_ble_eq_true rfl | omega | (dsimp only [lwR]; omega) | (show _ ≤ _; omega)⟩) hS_2 (fun q _ h => (ge_mm q) h) (fun q h => (ge_mm q) h) (fun z_20 H_18 locs_15 hz_17 hF_19 hS_16 => ?_)
      have hzf_21 := hF_19.1
      obtain ⟨hv_22, ho_23⟩ := hz_17
      subst z_20
      refine lv_istore (lv' := [(7, .int (kI (ln_bend (st_ln S ln9) pl9))), (6, .int (kI (0))), (0, .ref b), (1, .ref x1), (2, .ref mm), (3, .ref out), (4, .ref outD), (5, .int (kI ((3 * j : Nat) : Int)))]) hx hb dL_law_1167 hl (by decide) rfl (fun ls hl => ?_)
      refine lv_aload_n hx hb dL_law_1169 rfl (lv_at hl 4 rfl) ?_
      refine kx_ci0 (va_runV (As := []) (rest := []) ⟨hx, hb, hml, hown, hts⟩ (m_X3_thrown l D H_18 mm ra sa ka ta nh ik t.length 0 sp9 iw le9 fi9 se9 ho_23 ) (cwV 0 hts (lw_V q2278 q2279 q2280 q89 q2281) rfl rfl rfl (by decide +kernel) ⟨Nat.le_of_ble_eq_true rfl, Nat.le_of_ble_eq_true rfl⟩) (kx_pv hK hS_16 hB (kx_rc hK ho_23 (C := RX3) (T := TX3) (N := 13) rfl)) rfl rfl hl.1 rfl (lv_room (Nat.le_of_ble_eq_true rfl)) dL_law_1170 ⟨by first | exact Nat.le_of_ble_eq_true rfl | omega | (dsimp only [lwR]; omega) | (show _ ≤ _; omega), by first | exact Nat.le_of_ble_eq_true rfl | omega | (dsimp only [lwR]; omega) | (show _ ≤ _; omega)⟩) hS_16 (fun z_27 locs_24 hz_26 hS_25 => ?_)
      subst z_27
      refine lv_iload hx hb dL_law_1173 (lv_at hl 1 rfl) ?_
      refine kx_icmp_eq (x := 0) (y := 0) (tgt := 1180) hx hb dL_law_1175 (by decide) (by omega) (by omega) (by omega) (by omega) (fun c_1175_28 => ?_) (fun c_1175_28 => ?_)
      · -- taken at 1175
        refine lv_iload hx hb dL_law_1180 (lv_at hl 1 rfl) ?_
        refine kx_if_ne (x := 0) (tgt := 1197) hx hb dL_law_1182 (by decide) (by omega) (by omega) (fun c_1182_29 => ?_) (fun c_1182_29 => ?_)
        · -- taken at 1182
          exfalso; omega
        · -- not taken at 1182
          refine lv_aload_n hx hb dL_law_1185 rfl (lv_at hl 5 rfl) ?_
          refine kx_iconst hx hb dL_law_1186 ?_
          have h_30 := ho_9.fr hF_19 (n_mm_out.sm)
          refine kx_lald (i := 0) hx hb hK h_30 0 rfl (by decide) (by decide) dL_law_1187 ?_
          refine lv_iload hx hb dL_law_1188 (lv_at hl 0 rfl) ?_
          refine kx_i2l hx hb (z := ln_bend (st_ln S ln9) pl9) (by omega) (by omega) dL_law_1190 ?_
          refine kx_lcmpE hx hb (x := ((kup go 0 (kL (ln_bend (st_ln S ln9) pl9)))) 0) (y := kL (ln_bend (st_ln S ln9) pl9)) (kup_self _ _ _) dL_law_1191 ?_
          refine kx_if_eq (x := 0) (tgt := 1197) hx hb dL_law_1192 (by decide) (by omega) (by omega) (fun c_1192_31 => ?_) (fun c_1192_31 => ?_)
          · -- taken at 1192
            refine lv_goto (tgt := 2493) hx hb dL_law_1197 (by decide) ?_
            have h_32 := h_11.fr hF_19 (n_mm_ra.sm)
            have h_33 := h_12.fr hF_19 (n_mm_sa.sm)
            have h_34 := h_13.fr hF_19 (n_mm_ka.sm)
            have h_35 := h_14.fr hF_19 (n_mm_ta.sm)
            have h_36 := hA_outD.fr hF_5 (n_out_outD.sm)
            have h_37 := h_36.fr hF_19 (n_mm_outD.sm)
            have h_38 := hW.fr hd9 hF_5 (fun x => (to_out x))
            have h_39 := h_38.fr hd9 hF_19 (fun x => (ty_mm x))
            refine W.widen (k := cells + 50000) (n := slots + 228000) (by omega) (by omega) ?_
            have hM9 : kM D H_18 c0 out mm (S, gap) ((sl.map Prod.snd).head?) (hl2.map Prod.snd) t := ⟨ra, sa, ka, ta, _, _, _, _, _, _, _, _, _, _, _, _, ho_23, h_32, h_33, h_34, h_35, hMr, hMh, hMk, hMt, ht60, hMd, hMb, hMi⟩
            exact kk (S, gap) ((sl.map Prod.snd).head?) (hl2.map Prod.snd) t _ _ _ ⟨hS_25, lv_sub hl [2, 3, 4, 5, 6, 7] rfl, h_39, hM9, ⟨_, h_30⟩, ⟨_, h_37⟩, by omega, by omega⟩
          · -- not taken at 1192
            exfalso; omega
      · -- not taken at 1175
        exfalso; omega
    · -- hA2
      refine lv_aload_n hx hb dL_law_1132 rfl (lv_at hl 1 rfl) ?_
      refine lv_aload_n hx hb dL_law_1133 rfl (lv_at hl 0 rfl) ?_
      refine lv_iload hx hb dL_law_1134 (lv_at hl 5 rfl) ?_
      refine kx_iconst hx hb dL_law_1136 ?_
      refine kx_iadd hx hb dL_law_1137 ?_
      refine kx_sld (i := (((3 * j : Nat) : Int) + 1)) hx hb hX hbl hbA hS (3 * j + 1) (by omega) (by omega) (by omega) dL_law_1138 ?_
      refine kx_eqi (((ln9 : Nat) : Int)) (hz1.symm.trans hv1) ?_
      refine lv_aload_n hx hb dL_law_1139 rfl (lv_at hl 0 rfl) ?_
      refine lv_iload hx hb dL_law_1140 (lv_at hl 5 rfl) ?_
      refine kx_iconst hx hb dL_law_1142 ?_
      refine kx_iadd hx hb dL_law_1143 ?_
      refine kx_sld (i := (((3 * j : Nat) : Int) + 2)) hx hb hX hbl hbA hS (3 * j + 2) (by omega) (by omega) (by omega) dL_law_1144 ?_
      refine kx_eqi (z2) (hz2.symm) ?_
      refine lv_aload_n hx hb dL_law_1145 rfl (lv_at hl 3 rfl) ?_
      refine kx_ci (vx_runSW (As := [.ref x1, .int (kI ((ln9 : Nat) : Int)), .int (kI (z2)), .ref out]) (rest := []) ⟨hx, hb, hml, hown, hts⟩ (wx_bendAt_n l hl9 D H x1 ((sl.map (fun a => a.1.1)).head?) hi bu st la mc9 ea F S gap ln9 z2 out hO_x1 hO_st hO_la hLs9 hLn9 (by first | assumption | omega) (by first | assumption | omega) (by first | assumption | omega) (by first | assumption | omega)) (vx_cwSW 4 hts (lw_SW q1970 q1971 q78 q1972) rfl rfl rfl (by decide +kernel) ⟨Nat.le_of_ble_eq_true rfl, Nat.le_of_ble_eq_true rfl⟩) (kx_ps hK hS hB) rfl rfl hl.1 rfl (lv_room (Nat.le_of_ble_eq_true rfl)) dL_law_1146 ⟨by first | exact Nat.le_of_ble_eq_true rfl | omega | (dsimp only [lwR]; omega) | (show _ ≤ _; omega), by first | exact Nat.le_of_ble_eq_true rfl | omega | (dsimp only [lwR]; omega) | (show _ ≤ _; omega)⟩) hS (fun q _ h => by have h9 := hS.1; (try dsimp only at h); (try dsimp only); (try simp only [kNW] at h); (try simp only [kNW]); omega) (fun q h => by have h9 := hS.1; (try dsimp only at h); (try dsimp only); (try simp only [kNW] at h); (try simp only [kNW]); omega) (fun z_45 H_43 locs_40 hz_42 hF_44 hS_41 => ?_)
      have hzf_46 := hF_44.1
      have hF_44 := hF_44.nw
      obtain ⟨hv_47, hnw_48⟩ := hz_42
      subst z_45
      refine lv_istore (lv' := [(6, .int (kI (1))), (0, .ref b), (1, .ref x1), (2, .ref mm), (3, .ref out), (4, .ref outD), (5, .int (kI ((3 * j : Nat) : Int)))]) hx hb dL_law_1149 hl (by decide) rfl (fun ls hl => ?_)
      refine lv_aload_n hx hb dL_law_1151 rfl (lv_at hl 3 rfl) ?_
      refine lv_aload_n hx hb dL_law_1152 rfl (lv_at hl 1 rfl) ?_
      refine lv_iload hx hb dL_law_1153 (lv_at hl 6 rfl) ?_
      refine kx_iconst hx hb dL_law_1155 ?_
      refine kx_iadd hx hb dL_law_1156 ?_
      refine kx_sld (i := (((3 * j : Nat) : Int) + 1)) hx hb hX hbl hbA hS_41 (3 * j + 1) (by omega) (by omega) (by omega) dL_law_1157 ?_
      refine kx_eqi (((ln9 : Nat) : Int)) (hz1.symm.trans hv1) ?_
      refine lv_aload_n hx hb dL_law_1158 rfl (lv_at hl 1 rfl) ?_
      refine lv_iload hx hb dL_law_1159 (lv_at hl 6 rfl) ?_
      refine kx_iconst hx hb dL_law_1161 ?_
      refine kx_iadd hx hb dL_law_1162 ?_
      refine kx_sld (i := (((3 * j : Nat) : Int) + 2)) hx hb hX hbl hbA hS_41 (3 * j + 2) (by omega) (by omega) (by omega) dL_law_1163 ?_
      refine kx_eqi (z2) (hz2.symm) ?_
      have h_49 := hO_mm.ex hF_44
      have h_50 := hA_ra.ex hF_44
      have h_51 := hA_sa.ex hF_44
      have h_52 := hA_ka.ex hF_44
      have h_53 := hA_ta.ex hF_44
      have ty_mm : ∀ x, x = mm → H_43.size ≤ x ∨ (kTy D H_43 x ∧ c0 ≤ x ∧ x < c1) := fun x h => by rw [h]; exact Or.inr ⟨Or.inl ⟨2, _, by decide, by decide, by decide, h_49⟩, i_mm.1, w_mm⟩
      refine kx_ci (va_runV (As := [.int (kI ((ln9 : Nat) : Int)), .int (kI (z2))]) (rest := []) ⟨hx, hb, hml, hown, hts⟩ (m_X3_bendAt_no l D H_43 mm ra sa ka ta nh ik t.length th sp9 iw le9 fi9 se9 g S gap (((ln9 : Nat) : Int)) z2 h_49 h_50 (by first | assumption | omega) (by first | assumption | omega) n_mm_ra b_mm (by first | assumption | omega) (by first | assumption | omega) (by rw [Int.toNat_natCast]; exact fun h => hA2 h.2)) (cwV 2 hts (lw_V q2487 q2488 q2489 q89 q2490) rfl rfl rfl (by decide +kernel) ⟨Nat.le_of_ble_eq_true rfl, Nat.le_of_ble_eq_true rfl⟩) (kx_pv hK hS_41 hB (kx_rc hK h_49 (C := RX3) (T := TX3) (N := 13) rfl)) rfl rfl hl.1 rfl (lv_room (Nat.le_of_ble_eq_true rfl)) dL_law_1164 ⟨by first | exact Nat.le_of_ble_eq_true rfl | omega | (dsimp only [lwR]; omega) | (show _ ≤ _; omega), by first | exact Nat.le_of_ble_eq_true rfl | omega | (dsimp only [lwR]; omega) | (show _ ≤ _; omega)⟩) hS_41 (fun q _ h => (ge_mm q) h) (fun q h => (ge_mm q) h) (fun z_59 H_57 locs_54 hz_56 hF_58 hS_55 => ?_)
      have hzf_60 := hF_58.1
      obtain ⟨hv_61, ho_62⟩ := hz_56
      subst z_59
      refine lv_istore (lv' := [(7, .int (kI (0))), (6, .int (kI (1))), (0, .ref b), (1, .ref x1), (2, .ref mm), (3, .ref out), (4, .ref outD), (5, .int (kI ((3 * j : Nat) : Int)))]) hx hb dL_law_1167 hl (by decide) rfl (fun ls hl => ?_)
      refine lv_aload_n hx hb dL_law_1169 rfl (lv_at hl 4 rfl) ?_
      refine kx_ci0 (va_runV (As := []) (rest := []) ⟨hx, hb, hml, hown, hts⟩ (m_X3_thrown l D H_57 mm ra sa ka ta nh ik t.length 1 sp9 iw le9 fi9 se9 ho_62 ) (cwV 0 hts (lw_V q2278 q2279 q2280 q89 q2281) rfl rfl rfl (by decide +kernel) ⟨Nat.le_of_ble_eq_true rfl, Nat.le_of_ble_eq_true rfl⟩) (kx_pv hK hS_55 hB (kx_rc hK ho_62 (C := RX3) (T := TX3) (N := 13) rfl)) rfl rfl hl.1 rfl (lv_room (Nat.le_of_ble_eq_true rfl)) dL_law_1170 ⟨by first | exact Nat.le_of_ble_eq_true rfl | omega | (dsimp only [lwR]; omega) | (show _ ≤ _; omega), by first | exact Nat.le_of_ble_eq_true rfl | omega | (dsimp only [lwR]; omega) | (show _ ≤ _; omega)⟩) hS_55 (fun z_66 locs_63 hz_65 hS_64 => ?_)
      subst z_66
      refine lv_iload hx hb dL_law_1173 (lv_at hl 1 rfl) ?_
      refine kx_icmp_eq (x := 1) (y := 1) (tgt := 1180) hx hb dL_law_1175 (by decide) (by omega) (by omega) (by omega) (by omega) (fun c_1175_67 => ?_) (fun c_1175_67 => ?_)
      · -- taken at 1175
        refine lv_iload hx hb dL_law_1180 (lv_at hl 1 rfl) ?_
        refine kx_if_ne (x := 1) (tgt := 1197) hx hb dL_law_1182 (by decide) (by omega) (by omega) (fun c_1182_68 => ?_) (fun c_1182_68 => ?_)
        · -- taken at 1182
          refine lv_goto (tgt := 2493) hx hb dL_law_1197 (by decide) ?_
          have h_69 := h_50.fr hF_58 (n_mm_ra.sm)
          have h_70 := h_51.fr hF_58 (n_mm_sa.sm)
          have h_71 := h_52.fr hF_58 (n_mm_ka.sm)
          have h_72 := h_53.fr hF_58 (n_mm_ta.sm)
          have h_73 := hA_out.ex hF_44
          have h_74 := h_73.fr hF_58 (n_mm_out.sm)
          have h_75 := hA_outD.ex hF_44
          have h_76 := h_75.fr hF_58 (n_mm_outD.sm)
          have h_77 := hW.ex hd9 hF_44
          have h_78 := h_77.fr hd9 hF_58 (fun x => (ty_mm x))
          refine W.widen (k := cells + 50000) (n := slots + 228000) (by omega) (by omega) ?_
          have hM9 : kM D H_57 c0 out mm (S, gap) ((sl.map Prod.snd).head?) (hl2.map Prod.snd) t := ⟨ra, sa, ka, ta, _, _, _, _, _, _, _, _, _, _, _, _, ho_62, h_69, h_70, h_71, h_72, hMr, hMh, hMk, hMt, ht60, hMd, hMb, hMi⟩
          exact kk (S, gap) ((sl.map Prod.snd).head?) (hl2.map Prod.snd) t _ _ _ ⟨hS_64, lv_sub hl [2, 3, 4, 5, 6, 7] rfl, h_78, hM9, ⟨_, h_74⟩, ⟨_, h_76⟩, by omega, by omega⟩
        · -- not taken at 1182
          exfalso; omega
      · -- not taken at 1175
        exfalso; omega
  · -- hA
    refine lv_aload_n hx hb dL_law_1132 rfl (lv_at hl 1 rfl) ?_
    refine lv_aload_n hx hb dL_law_1133 rfl (lv_at hl 0 rfl) ?_
    refine lv_iload hx hb dL_law_1134 (lv_at hl 5 rfl) ?_
    refine kx_iconst hx hb dL_law_1136 ?_
    refine kx_iadd hx hb dL_law_1137 ?_
    refine kx_sld (i := (((3 * j : Nat) : Int) + 1)) hx hb hX hbl hbA hS (3 * j + 1) (by omega) (by omega) (by omega) dL_law_1138 ?_
    refine kx_eqi (z1) (hz1.symm) ?_
    refine lv_aload_n hx hb dL_law_1139 rfl (lv_at hl 0 rfl) ?_
    refine lv_iload hx hb dL_law_1140 (lv_at hl 5 rfl) ?_
    refine kx_iconst hx hb dL_law_1142 ?_
    refine kx_iadd hx hb dL_law_1143 ?_
    refine kx_sld (i := (((3 * j : Nat) : Int) + 2)) hx hb hX hbl hbA hS (3 * j + 2) (by omega) (by omega) (by omega) dL_law_1144 ?_
    refine kx_eqi (z2) (hz2.symm) ?_
    refine lv_aload_n hx hb dL_law_1145 rfl (lv_at hl 3 rfl) ?_
    refine kx_ci (vx_runSW (As := [.ref x1, .int (kI (z1)), .int (kI (z2)), .ref out]) (rest := []) ⟨hx, hb, hml, hown, hts⟩ (wx_bendAt_l l hl9 D H x1 ((sl.map (fun a => a.1.1)).head?) hi bu st la mc9 ea F S gap z1 z2 out hO_x1 hO_st hO_la hLs9 hLn9 (by first | assumption | omega) (by first | assumption | omega) (by first | assumption | omega) (by first | assumption | omega)) (vx_cwSW 4 hts (lw_SW q1970 q1971 q78 q1972) rfl rfl rfl (by decide +kernel) ⟨Nat.le_of_ble_eq_true rfl, Nat.le_of_ble_eq_true rfl⟩) (kx_ps hK hS hB) rfl rfl hl.1 rfl (lv_room (Nat.le_of_ble_eq_true rfl)) dL_law_1146 ⟨by first | exact Nat.le_of_ble_eq_true rfl | omega | (dsimp only [lwR]; omega) | (show _ ≤ _; omega), by first | exact Nat.le_of_ble_eq_true rfl | omega | (dsimp only [lwR]; omega) | (show _ ≤ _; omega)⟩) hS (fun q _ h => by have h9 := hS.1; (try dsimp only at h); (try dsimp only); (try simp only [kNW] at h); (try simp only [kNW]); omega) (fun q h => by have h9 := hS.1; (try dsimp only at h); (try dsimp only); (try simp only [kNW] at h); (try simp only [kNW]); omega) (fun z_84 H_82 locs_79 hz_81 hF_83 hS_80 => ?_)
    have hzf_85 := hF_83.1
    have hF_83 := hF_83.nw
    obtain ⟨hv_86, hnw_87⟩ := hz_81
    subst z_84
    refine lv_istore (lv' := [(6, .int (kI (1))), (0, .ref b), (1, .ref x1), (2, .ref mm), (3, .ref out), (4, .ref outD), (5, .int (kI ((3 * j : Nat) : Int)))]) hx hb dL_law_1149 hl (by decide) rfl (fun ls hl => ?_)
    refine lv_aload_n hx hb dL_law_1151 rfl (lv_at hl 3 rfl) ?_
    refine lv_aload_n hx hb dL_law_1152 rfl (lv_at hl 1 rfl) ?_
    refine lv_iload hx hb dL_law_1153 (lv_at hl 6 rfl) ?_
    refine kx_iconst hx hb dL_law_1155 ?_
    refine kx_iadd hx hb dL_law_1156 ?_
    refine kx_sld (i := (((3 * j : Nat) : Int) + 1)) hx hb hX hbl hbA hS_80 (3 * j + 1) (by omega) (by omega) (by omega) dL_law_1157 ?_
    refine kx_eqi (z1) (hz1.symm) ?_
    refine lv_aload_n hx hb dL_law_1158 rfl (lv_at hl 1 rfl) ?_
    refine lv_iload hx hb dL_law_1159 (lv_at hl 6 rfl) ?_
    refine kx_iconst hx hb dL_law_1161 ?_
    refine kx_iadd hx hb dL_law_1162 ?_
    refine kx_sld (i := (((3 * j : Nat) : Int) + 2)) hx hb hX hbl hbA hS_80 (3 * j + 2) (by omega) (by omega) (by omega) dL_law_1163 ?_
    refine kx_eqi (z2) (hz2.symm) ?_
    have h_88 := hO_mm.ex hF_83
    have h_89 := hA_ra.ex hF_83
    have h_90 := hA_sa.ex hF_83
    have h_91 := hA_ka.ex hF_83
    have h_92 := hA_ta.ex hF_83
    have ty_mm : ∀ x, x = mm → H_82.size ≤ x ∨ (kTy D H_82 x ∧ c0 ≤ x ∧ x < c1) := fun x h => by rw [h]; exact Or.inr ⟨Or.inl ⟨2, _, by decide, by decide, by decide, h_88⟩, i_mm.1, w_mm⟩
    refine kx_ci (va_runV (As := [.int (kI (z1)), .int (kI (z2))]) (rest := []) ⟨hx, hb, hml, hown, hts⟩ (m_X3_bendAt_no l D H_82 mm ra sa ka ta nh ik t.length th sp9 iw le9 fi9 se9 g S gap z1 z2 h_88 h_89 (by first | assumption | omega) (by first | assumption | omega) n_mm_ra b_mm (by first | assumption | omega) (by first | assumption | omega) (fun h => hA h.1)) (cwV 2 hts (lw_V q2487 q2488 q2489 q89 q2490) rfl rfl rfl (by decide +kernel) ⟨Nat.le_of_ble_eq_true rfl, Nat.le_of_ble_eq_true rfl⟩) (kx_pv hK hS_80 hB (kx_rc hK h_88 (C := RX3) (T := TX3) (N := 13) rfl)) rfl rfl hl.1 rfl (lv_room (Nat.le_of_ble_eq_true rfl)) dL_law_1164 ⟨by first | exact Nat.le_of_ble_eq_true rfl | omega | (dsimp only [lwR]; omega) | (show _ ≤ _; omega), by first | exact Nat.le_of_ble_eq_true rfl | omega | (dsimp only [lwR]; omega) | (show _ ≤ _; omega)⟩) hS_80 (fun q _ h => (ge_mm q) h) (fun q h => (ge_mm q) h) (fun z_98 H_96 locs_93 hz_95 hF_97 hS_94 => ?_)
    have hzf_99 := hF_97.1
    obtain ⟨hv_100, ho_101⟩ := hz_95
    subst z_98
    refine lv_istore (lv' := [(7, .int (kI (0))), (6, .int (kI (1))), (0, .ref b), (1, .ref x1), (2, .ref mm), (3, .ref out), (4, .ref outD), (5, .int (kI ((3 * j : Nat) : Int)))]) hx hb dL_law_1167 hl (by decide) rfl (fun ls hl => ?_)
    refine lv_aload_n hx hb dL_law_1169 rfl (lv_at hl 4 rfl) ?_
    refine kx_ci0 (va_runV (As := []) (rest := []) ⟨hx, hb, hml, hown, hts⟩ (m_X3_thrown l D H_96 mm ra sa ka ta nh ik t.length 1 sp9 iw le9 fi9 se9 ho_101 ) (cwV 0 hts (lw_V q2278 q2279 q2280 q89 q2281) rfl rfl rfl (by decide +kernel) ⟨Nat.le_of_ble_eq_true rfl, Nat.le_of_ble_eq_true rfl⟩) (kx_pv hK hS_94 hB (kx_rc hK ho_101 (C := RX3) (T := TX3) (N := 13) rfl)) rfl rfl hl.1 rfl (lv_room (Nat.le_of_ble_eq_true rfl)) dL_law_1170 ⟨by first | exact Nat.le_of_ble_eq_true rfl | omega | (dsimp only [lwR]; omega) | (show _ ≤ _; omega), by first | exact Nat.le_of_ble_eq_true rfl | omega | (dsimp only [lwR]; omega) | (show _ ≤ _; omega)⟩) hS_94 (fun z_105 locs_102 hz_104 hS_103 => ?_)
    subst z_105
    refine lv_iload hx hb dL_law_1173 (lv_at hl 1 rfl) ?_
    refine kx_icmp_eq (x := 1) (y := 1) (tgt := 1180) hx hb dL_law_1175 (by decide) (by omega) (by omega) (by omega) (by omega) (fun c_1175_106 => ?_) (fun c_1175_106 => ?_)
    · -- taken at 1175
      refine lv_iload hx hb dL_law_1180 (lv_at hl 1 rfl) ?_
      refine kx_if_ne (x := 1) (tgt := 1197) hx hb dL_law_1182 (by decide) (by omega) (by omega) (fun c_1182_107 => ?_) (fun c_1182_107 => ?_)
      · -- taken at 1182
        refine lv_goto (tgt := 2493) hx hb dL_law_1197 (by decide) ?_
        have h_108 := h_89.fr hF_97 (n_mm_ra.sm)
        have h_109 := h_90.fr hF_97 (n_mm_sa.sm)
        have h_110 := h_91.fr hF_97 (n_mm_ka.sm)
        have h_111 := h_92.fr hF_97 (n_mm_ta.sm)
        have h_112 := hA_out.ex hF_83
        have h_113 := h_112.fr hF_97 (n_mm_out.sm)
        have h_114 := hA_outD.ex hF_83
        have h_115 := h_114.fr hF_97 (n_mm_outD.sm)
        have h_116 := hW.ex hd9 hF_83
        have h_117 := h_116.fr hd9 hF_97 (fun x => (ty_mm x))
        refine W.widen (k := cells + 50000) (n := slots + 228000) (by omega) (by omega) ?_
        have hM9 : kM D H_96 c0 out mm (S, gap) ((sl.map Prod.snd).head?) (hl2.map Prod.snd) t := ⟨ra, sa, ka, ta, _, _, _, _, _, _, _, _, _, _, _, _, ho_101, h_108, h_109, h_110, h_111, hMr, hMh, hMk, hMt, ht60, hMd, hMb, hMi⟩
        exact kk (S, gap) ((sl.map Prod.snd).head?) (hl2.map Prod.snd) t _ _ _ ⟨hS_103, lv_sub hl [2, 3, 4, 5, 6, 7] rfl, h_117, hM9, ⟨_, h_113⟩, ⟨_, h_115⟩, by omega, by omega⟩
      · -- not taken at 1182
        exfalso; omega
    · -- not taken at 1175
      exfalso; omega

set_option maxHeartbeats 8000000 in
set_option maxRecDepth 100000 in
theorem lc_bendOf {p : Program} {e : Env} {s : State} {m : MethodId} {below : List Frame} {meth : Method} {c : Code} {l : Launch} {D : kG} {b L c0 c1 x1 mm out outD : Nat} {xs : Nat → Int32} {Q : State → Prop} (C0 : lwC D p l s m meth c b L c0 c1 out outD xs) {j : Nat} (hj : 3 * j + 3 ≤ L) {S : Ls} {gap : Int} {sn : Option Sg} {hs : List Sg} {t : List Int} {H : Heap} {locs : List Loc} {ls : Array Slot} (I0 : lwI D s b c0 c1 x1 mm out outD j j (S, gap) sn hs t H locs ls) {cells slots : Nat} (hcl : cells + 50000 ≤ 1200144) (hsl9 : slots + 228000 ≤ 5496058) (kk : ∀ (σ : Sg) (sn : Option Sg) (hs : List Sg) (t : List Int) (H : Heap) (locs : List Loc) (ls : Array Slot), lwI D s b c0 c1 x1 mm out outD j (j + 1) σ sn hs t H locs ls → W p l e lwR s m #[Value.ref b] below meth c H locs (cells + 50000) (slots + 228000) Q (F0 m 2493 ls [])) : W p l e lwR s m #[Value.ref b] below meth c H locs cells slots Q (F0 m 1611 ls []) := by
  obtain ⟨hx, hb, hml, hown, hts, hlk, hK, hl9, hX, hbl, hbs, hL72, hc0, hco, hod, hdc⟩ := C0
  obtain ⟨hS, hl, hW, hM, ⟨go, hA_out⟩, ⟨gd, hA_outD⟩, hc1, htl⟩ := I0
  have hB : ∀ q, (kNW s.heap) q → kBase D ≤ q := fun q h => Nat.le_trans hK.size h
  have hbA : ¬ (kNW s.heap) b := fun h => by have h9 : s.heap.size ≤ b := h; omega
  have hd9 := hK.dis
  have hxE : ¬ kBase D ≤ D.2.2.2 2 := hK.tE.out
  obtain ⟨z1, hz1⟩ : ∃ z, z = (xs (3 * j + 1)).toInt := ⟨_, rfl⟩
  obtain ⟨z2, hz2⟩ : ∃ z, z = (xs (3 * j + 2)).toInt := ⟨_, rfl⟩
  have hr1 : -2147483648 ≤ z1 ∧ z1 ≤ 2147483647 := by rw [hz1]; exact i32r _
  have hr2 : -2147483648 ≤ z2 ∧ z2 ≤ 2147483647 := by rw [hz2]; exact i32r _
  obtain ⟨⟨st, la, ea, F⟩, sl, hl2, hi, es, bu, vb, hO_x1, hDq, hTx, hX5, hev, hAl, hDj, hPw, hsl, hsn, hhs⟩ := id hW
  subst hsn
  subst hhs
  obtain ⟨ra, sa, ka, ta, nh, ik, th, sp9, iw, le9, fi9, se9, g, gs, gk, gt, hO_mm, hA_ra, hA_sa, hA_ka, hA_ta, hMr, hMh, hMk, hMt, ht60, hMd, hMb, hMi⟩ := id hM
  have hMr : MRow g S gap := hMr
  have h0 := hAl _ List.mem_cons_self
  have hP_kState_st : kState D H st la ea gap S F := h0.1
  have hok : LsOK S gap := h0.2.1
  have hG : StG S := h0.2.2.1
  have hL8 : S.length ≤ 8 := hok.1
  have hgp := hok.2.1
  have hO_x1 : kO D H x1 0 [.ref st, va_rf ((sl.map (fun a => a.1.1)).head?), .ref hi, .ref bu] := hO_x1
  have hOw : ∀ q, kOwn D st la ea F S.length q → q ∉ [x1, hi, es, bu, vb] ∧ (q < c0 ∨ c1 ≤ q) := h0.2.2.2
  have hev : Hd (es ≠ vb) := hev
  have io_x1 : ∀ x, c0 ≤ x → x < c1 → x ≠ x1 := fun x => out_of (hX5 x1 (by simp)).2
  have io_hi : ∀ x, c0 ≤ x → x < c1 → x ≠ hi := fun x => out_of (hX5 hi (by simp)).2
  have io_es : ∀ x, c0 ≤ x → x < c1 → x ≠ es := fun x => out_of (hX5 es (by simp)).2
  have io_bu : ∀ x, c0 ≤ x → x < c1 → x ≠ bu := fun x => out_of (hX5 bu (by simp)).2
  have io_vb : ∀ x, c0 ≤ x → x < c1 → x ≠ vb := fun x => out_of (hX5 vb (by simp)).2
  have b_x1 := (hX5 x1 (by simp)).1
  have b_hi := (hX5 hi (by simp)).1
  have b_es := (hX5 es (by simp)).1
  have b_bu := (hX5 bu (by simp)).1
  have b_vb := (hX5 vb (by simp)).1
  obtain ⟨⟨⟨n1, n2, n3, n4⟩, n5, n6, n7⟩, n8, n9, n10⟩ := hMd
  have n_mm_ra : Hd (mm ≠ ra) := n1
  have n_mm_sa : Hd (mm ≠ sa) := n2
  have n_mm_ka : Hd (mm ≠ ka) := n3
  have n_mm_ta : Hd (mm ≠ ta) := n4
  have n_ra_sa : Hd (ra ≠ sa) := n5
  have n_ra_ka : Hd (ra ≠ ka) := n6
  have n_ra_ta : Hd (ra ≠ ta) := n7
  have n_sa_ka : Hd (sa ≠ ka) := n8
  have n_sa_ta : Hd (sa ≠ ta) := n9
  have n_ka_ta : Hd (ka ≠ ta) := n10
  have hMd : Hd (((mm ≠ ra ∧ mm ≠ sa ∧ mm ≠ ka ∧ mm ≠ ta) ∧ ra ≠ sa ∧ ra ≠ ka ∧ ra ≠ ta) ∧ sa ≠ ka ∧ sa ≠ ta ∧ ka ≠ ta) := ⟨⟨⟨n1, n2, n3, n4⟩, n5, n6, n7⟩, n8, n9, n10⟩
  clear n1 n2 n3 n4 n5 n6 n7 n8 n9 n10
  obtain ⟨b_mm, b_ra, b_sa, b_ka, b_ta⟩ := id hMb
  obtain ⟨i_mm, i_ra, i_sa, i_ka, i_ta⟩ := id hMi
  have b_out : kBase D ≤ out := by omega
  have hcc : c0 ≤ c1 := by omega
  have w_mm : mm < c1 := by omega
  have n_mm_out : Hd (mm ≠ out) := Nat.ne_of_lt i_mm.2
  have n_mm_outD : Hd (mm ≠ outD) := Nat.ne_of_lt (Nat.lt_trans i_mm.2 hod)
  have w_ra : ra < c1 := by omega
  have n_ra_out : Hd (ra ≠ out) := Nat.ne_of_lt i_ra.2
  have n_ra_outD : Hd (ra ≠ outD) := Nat.ne_of_lt (Nat.lt_trans i_ra.2 hod)
  have w_sa : sa < c1 := by omega
  have n_sa_out : Hd (sa ≠ out) := Nat.ne_of_lt i_sa.2
  have n_sa_outD : Hd (sa ≠ outD) := Nat.ne_of_lt (Nat.lt_trans i_sa.2 hod)
  have w_ka : ka < c1 := by omega
  have n_ka_out : Hd (ka ≠ out) := Nat.ne_of_lt i_ka.2
  have n_ka_outD : Hd (ka ≠ outD) := Nat.ne_of_lt (Nat.lt_trans i_ka.2 hod)
  have w_ta : ta < c1 := by omega
  have n_ta_out : Hd (ta ≠ out) := Nat.ne_of_lt i_ta.2
  have n_ta_outD : Hd (ta ≠ outD) := Nat.ne_of_lt (Nat.lt_trans i_ta.2 hod)
  have ge_mm : ∀ q, q = mm → kNW s.heap q := fun q h => by rw [h]; show s.heap.size ≤ mm; omega
  have ge_ra : ∀ q, q = ra → kNW s.heap q := fun q h => by rw [h]; show s.heap.size ≤ ra; omega
  have ge_sa : ∀ q, q = sa → kNW s.heap q := fun q h => by rw [h]; show s.heap.size ≤ sa; omega
  have ge_ka : ∀ q, q = ka → kNW s.heap q := fun q h => by rw [h]; show s.heap.size ≤ ka; omega
  have ge_ta : ∀ q, q = ta → kNW s.heap q := fun q h => by rw [h]; show s.heap.size ≤ ta; omega
  have ge_out : ∀ q, q = out → kNW s.heap q := fun q h => by rw [h]; show s.heap.size ≤ out; omega
  have n_out_outD : Hd (out ≠ outD) := Nat.ne_of_lt hod
  have w_out : out < c1 := by omega
  have w_outD : outD < c1 := hdc
  have i_outD : c0 ≤ outD := by omega
  have htyo : kTy D H out := Or.inr ⟨2, _, by decide, hA_out⟩
  have htyd : kTy D H outD := Or.inr ⟨3, _, by decide, hA_outD⟩
  have to_out : ∀ x, x = out → H.size ≤ x ∨ (kTy D H x ∧ c0 ≤ x ∧ x < c1) := fun x h => by rw [h]; exact Or.inr ⟨htyo, hco, w_out⟩
  have to_outD : ∀ x, x = outD → H.size ≤ x ∨ (kTy D H x ∧ c0 ≤ x ∧ x < c1) := fun x h => by rw [h]; exact Or.inr ⟨htyd, i_outD, w_outD⟩
  obtain ⟨⟨hO_st, mc9, hO_la⟩, hLs9, hLn9, hF9, hDs9, hb1, hb2, hb3⟩ := id hP_kState_st
  by_cases hA : 0 ≤ z1 ∧ z1 < (S.length : Int)
  · -- hA
    obtain ⟨ln9, hv1⟩ : ∃ k : Nat, z1 = (k : Int) := ⟨z1.toNat, by omega⟩
    have hln : ln9 < S.length := by omega
    have hLn := hok.ln hln
    by_cases hA2 : 0 ≤ z2 ∧ z2 ≤ (ln_n (st_ln S ln9) : Int)
    · -- hA2
      obtain ⟨pl9, hv2⟩ : ∃ k : Nat, z2 = (k : Int) := ⟨z2.toNat, by omega⟩
      have hpl : pl9 ≤ ln_n (st_ln S ln9) := by omega
      have hr9 := bo_rng hLn pl9
      have hrv : -2147483648 ≤ (if ln_isPlace (st_ln S ln9) (pl9 : Int) = true then ln_bends (st_ln S ln9) (pl9 : Int) else -1) ∧ (if ln_isPlace (st_ln S ln9) (pl9 : Int) = true then ln_bends (st_ln S ln9) (pl9 : Int) else -1) ≤ 2147483647 := hr9
      refine lv_aload_n hx hb dL_law_1611 rfl (lv_at hl 1 rfl) ?_
      refine lv_aload_n hx hb dL_law_1612 rfl (lv_at hl 0 rfl) ?_
      refine lv_iload hx hb dL_law_1613 (lv_at hl 5 rfl) ?_
      refine kx_iconst hx hb dL_law_1615 ?_
      refine kx_iadd hx hb dL_law_1616 ?_
      refine kx_sld (i := (((3 * j : Nat) : Int) + 1)) hx hb hX hbl hbA hS (3 * j + 1) (by omega) (by omega) (by omega) dL_law_1617 ?_
      refine kx_eqi (((ln9 : Nat) : Int)) (hz1.symm.trans hv1) ?_
      refine lv_aload_n hx hb dL_law_1618 rfl (lv_at hl 0 rfl) ?_
      refine lv_iload hx hb dL_law_1619 (lv_at hl 5 rfl) ?_
      refine kx_iconst hx hb dL_law_1621 ?_
      refine kx_iadd hx hb dL_law_1622 ?_
      refine kx_sld (i := (((3 * j : Nat) : Int) + 2)) hx hb hX hbl hbA hS (3 * j + 2) (by omega) (by omega) (by omega) dL_law_1623 ?_
      refine kx_eqi (((pl9 : Nat) : Int)) (hz2.symm.trans hv2) ?_
      refine lv_aload_n hx hb dL_law_1624 rfl (lv_at hl 3 rfl) ?_
      refine kx_ci (vx_runSW (As := [.ref x1, .int (kI ((ln9 : Nat) : Int)), .int (kI ((pl9 : Nat) : Int)), .ref out]) (rest := []) ⟨hx, hb, hml, hown, hts⟩ (wr_bendOf l hl9 D H x1 ((sl.map (fun a => a.1.1)).head?) hi bu st la mc9 ea F S gap ln9 pl9 out go hO_x1 hO_st hO_la hLs9 hLn9 hA_out (by first | assumption | omega) (by first | assumption | omega) (by first | assumption | omega) (by first | assumption | omega) (by first | assumption | omega)) (vx_cwSW 4 hts (lw_SW q2041 q2042 q78 q2043) rfl rfl rfl (by decide +kernel) ⟨Nat.le_of_ble_eq_true rfl, Nat.le_of_ble_eq_true rfl⟩) (kx_ps hK hS hB) rfl rfl hl.1 rfl (lv_room (Nat.le_of_ble_eq_true rfl)) dL_law_1625 ⟨by first | exact Nat.le_of_ble_eq_true rfl | omega | (dsimp only [lwR]; omega) | (show _ ≤ _; omega), by first | exact Nat.le_of_ble_eq_true rfl | omega | (dsimp only [lwR]; omega) | (show _ ≤ _; omega)⟩) hS (fun q _ h => (ge_out q) h) (fun q h => (ge_out q) h) (fun z_6 H_4 locs_1 hz_3 hF_5 hS_2 => ?_)
      have hzf_7 := hF_5.1
      obtain ⟨hv_8, ho_9⟩ := hz_3
      subst z_6
      refine lv_istore (lv' := [(6, .int (kI (0))), (0, .ref b), (1, .ref x1), (2, .ref mm), (3, .ref out), (4, .ref outD), (5, .int (kI ((3 * j : Nat) : Int)))]) hx hb dL_law_1628 hl (by decide) rfl (fun ls hl => ?_)
      refine lv_aload_n hx hb dL_law_1630 rfl (lv_at hl 3 rfl) ?_
      refine lv_aload_n hx hb dL_law_1631 rfl (lv_at hl 1 rfl) ?_
      refine lv_iload hx hb dL_law_1632 (lv_at hl 6 rfl) ?_
      refine kx_iconst hx hb dL_law_1634 ?_
      refine kx_iadd hx hb dL_law_1635 ?_
      refine kx_sld (i := (((3 * j : Nat) : Int) + 1)) hx hb hX hbl hbA hS_2 (3 * j + 1) (by omega) (by omega) (by omega) dL_law_1636 ?_
      refine kx_eqi (((ln9 : Nat) : Int)) (hz1.symm.trans hv1) ?_
      refine lv_aload_n hx hb dL_law_1637 rfl (lv_at hl 1 rfl) ?_
      refine lv_iload hx hb dL_law_1638 (lv_at hl 6 rfl) ?_
      refine kx_iconst hx hb dL_law_1640 ?_
      refine kx_iadd hx hb dL_law_1641 ?_
      refine kx_sld (i := (((3 * j : Nat) : Int) + 2)) hx hb hX hbl hbA hS_2 (3 * j + 2) (by omega) (by omega) (by omega) dL_law_1642 ?_
      refine kx_eqi (((pl9 : Nat) : Int)) (hz2.symm.trans hv2) ?_
      have h_10 := hO_mm.fr hF_5 (n_mm_out)
      have h_11 := hA_ra.fr hF_5 (n_ra_out)
      have h_12 := hA_sa.fr hF_5 (n_sa_out)
      have h_13 := hA_ka.fr hF_5 (n_ka_out)
      have h_14 := hA_ta.fr hF_5 (n_ta_out)
      have ty_mm : ∀ x, x = mm → H_4.size ≤ x ∨ (kTy D H_4 x ∧ c0 ≤ x ∧ x < c1) := fun x h => by rw [h]; exact Or.inr ⟨Or.inl ⟨2, _, by decide, by decide, by decide, h_10⟩, i_mm.1, w_mm⟩
      refine kx_ci (va_runV (As := [.int (kI ((ln9 : Nat) : Int)), .int (kI ((pl9 : Nat) : Int))]) (rest := []) ⟨hx, hb, hml, hown, hts⟩ (m_X3_bendOf l D H_4 mm ra sa ka ta nh ik t.length th sp9 iw le9 fi9 se9 g S gap ln9 pl9 h_10 h_11 (by first | assumption | omega) (by first | assumption | omega) n_mm_ra b_mm (by first | assumption | omega) (by first | assumption | omega)) (cwV 2 hts (lw_V q2536 q2537 q2538 q89 q2539) rfl rfl rfl (by decide +kernel) ⟨Nat.le_of_ble_eq_true rfl, Nat.le_of_ble_eq_true rfl⟩) (kx_pv hK hS_2 hB (kx_rc hK h_10 (C := RX3) (T := TX3) (N := 13) rfl)) rfl rfl hl.1 rfl (lv_room (Nat.le_of_ble_eq_true rfl)) dL_law_1643 ⟨by first | exact Nat.le_of_ble_eq_true rfl | omega | (dsimp only [lwR]; omega) | (show _ ≤ _; omega), by first | exact Nat.le_of_ble_eq_true rfl | omega | (dsimp only [lwR]; omega) | (show _ ≤ _; omega)⟩) hS_2 (fun q _ h => (ge_mm q) h) (fun q h => (ge_mm q) h) (fun z_20 H_18 locs_15 hz_17 hF_19 hS_16 => ?_)
      have hzf_21 := hF_19.1
      obtain ⟨hv_22, ho_23⟩ := hz_17
      subst z_20
      refine lv_istore (lv' := [(7, .int (kI ((if ln_isPlace (st_ln S ln9) (pl9 : Int) = true then ln_bends (st_ln S ln9) (pl9 : Int) else -1)))), (6, .int (kI (0))), (0, .ref b), (1, .ref x1), (2, .ref mm), (3, .ref out), (4, .ref outD), (5, .int (kI ((3 * j : Nat) : Int)))]) hx hb dL_law_1646 hl (by decide) rfl (fun ls hl => ?_)
      refine lv_aload_n hx hb dL_law_1648 rfl (lv_at hl 4 rfl) ?_
      refine kx_ci0 (va_runV (As := []) (rest := []) ⟨hx, hb, hml, hown, hts⟩ (m_X3_thrown l D H_18 mm ra sa ka ta nh ik t.length 0 sp9 iw le9 fi9 se9 ho_23 ) (cwV 0 hts (lw_V q2278 q2279 q2280 q89 q2281) rfl rfl rfl (by decide +kernel) ⟨Nat.le_of_ble_eq_true rfl, Nat.le_of_ble_eq_true rfl⟩) (kx_pv hK hS_16 hB (kx_rc hK ho_23 (C := RX3) (T := TX3) (N := 13) rfl)) rfl rfl hl.1 rfl (lv_room (Nat.le_of_ble_eq_true rfl)) dL_law_1649 ⟨by first | exact Nat.le_of_ble_eq_true rfl | omega | (dsimp only [lwR]; omega) | (show _ ≤ _; omega), by first | exact Nat.le_of_ble_eq_true rfl | omega | (dsimp only [lwR]; omega) | (show _ ≤ _; omega)⟩) hS_16 (fun z_27 locs_24 hz_26 hS_25 => ?_)
      subst z_27
      refine lv_iload hx hb dL_law_1652 (lv_at hl 1 rfl) ?_
      refine kx_icmp_eq (x := 0) (y := 0) (tgt := 1659) hx hb dL_law_1654 (by decide) (by omega) (by omega) (by omega) (by omega) (fun c_1654_28 => ?_) (fun c_1654_28 => ?_)
      · -- taken at 1654
        refine lv_iload hx hb dL_law_1659 (lv_at hl 1 rfl) ?_
        refine kx_if_ne (x := 0) (tgt := 1676) hx hb dL_law_1661 (by decide) (by omega) (by omega) (fun c_1661_29 => ?_) (fun c_1661_29 => ?_)
        · -- taken at 1661
          exfalso; omega
        · -- not taken at 1661
          refine lv_aload_n hx hb dL_law_1664 rfl (lv_at hl 5 rfl) ?_
          refine kx_iconst hx hb dL_law_1665 ?_
          have h_30 := ho_9.fr hF_19 (n_mm_out.sm)
          refine kx_lald (i := 0) hx hb hK h_30 0 rfl (by decide) (by decide) dL_law_1666 ?_
          refine lv_iload hx hb dL_law_1667 (lv_at hl 0 rfl) ?_
          refine kx_i2l hx hb (z := (if ln_isPlace (st_ln S ln9) (pl9 : Int) = true then ln_bends (st_ln S ln9) (pl9 : Int) else -1)) (by omega) (by omega) dL_law_1669 ?_
          refine kx_lcmpE hx hb (x := ((kup go 0 (kL ((if ln_isPlace (st_ln S ln9) (pl9 : Int) = true then ln_bends (st_ln S ln9) (pl9 : Int) else -1))))) 0) (y := kL ((if ln_isPlace (st_ln S ln9) (pl9 : Int) = true then ln_bends (st_ln S ln9) (pl9 : Int) else -1))) (kup_self _ _ _) dL_law_1670 ?_
          refine kx_if_eq (x := 0) (tgt := 1676) hx hb dL_law_1671 (by decide) (by omega) (by omega) (fun c_1671_31 => ?_) (fun c_1671_31 => ?_)
          · -- taken at 1671
            refine lv_goto (tgt := 2493) hx hb dL_law_1676 (by decide) ?_
            have h_32 := h_11.fr hF_19 (n_mm_ra.sm)
            have h_33 := h_12.fr hF_19 (n_mm_sa.sm)
            have h_34 := h_13.fr hF_19 (n_mm_ka.sm)
            have h_35 := h_14.fr hF_19 (n_mm_ta.sm)
            have h_36 := hA_outD.fr hF_5 (n_out_outD.sm)
            have h_37 := h_36.fr hF_19 (n_mm_outD.sm)
            have h_38 := hW.fr hd9 hF_5 (fun x => (to_out x))
            have h_39 := h_38.fr hd9 hF_19 (fun x => (ty_mm x))
            refine W.widen (k := cells + 50000) (n := slots + 228000) (by omega) (by omega) ?_
            have hM9 : kM D H_18 c0 out mm (S, gap) ((sl.map Prod.snd).head?) (hl2.map Prod.snd) t := ⟨ra, sa, ka, ta, _, _, _, _, _, _, _, _, _, _, _, _, ho_23, h_32, h_33, h_34, h_35, hMr, hMh, hMk, hMt, ht60, hMd, hMb, hMi⟩
            exact kk (S, gap) ((sl.map Prod.snd).head?) (hl2.map Prod.snd) t _ _ _ ⟨hS_25, lv_sub hl [2, 3, 4, 5, 6, 7] rfl, h_39, hM9, ⟨_, h_30⟩, ⟨_, h_37⟩, by omega, by omega⟩
          · -- not taken at 1671
            exfalso; omega
      · -- not taken at 1654
        exfalso; omega
    · -- hA2
      refine lv_aload_n hx hb dL_law_1611 rfl (lv_at hl 1 rfl) ?_
      refine lv_aload_n hx hb dL_law_1612 rfl (lv_at hl 0 rfl) ?_
      refine lv_iload hx hb dL_law_1613 (lv_at hl 5 rfl) ?_
      refine kx_iconst hx hb dL_law_1615 ?_
      refine kx_iadd hx hb dL_law_1616 ?_
      refine kx_sld (i := (((3 * j : Nat) : Int) + 1)) hx hb hX hbl hbA hS (3 * j + 1) (by omega) (by omega) (by omega) dL_law_1617 ?_
      refine kx_eqi (((ln9 : Nat) : Int)) (hz1.symm.trans hv1) ?_
      refine lv_aload_n hx hb dL_law_1618 rfl (lv_at hl 0 rfl) ?_
      refine lv_iload hx hb dL_law_1619 (lv_at hl 5 rfl) ?_
      refine kx_iconst hx hb dL_law_1621 ?_
      refine kx_iadd hx hb dL_law_1622 ?_
      refine kx_sld (i := (((3 * j : Nat) : Int) + 2)) hx hb hX hbl hbA hS (3 * j + 2) (by omega) (by omega) (by omega) dL_law_1623 ?_
      refine kx_eqi (z2) (hz2.symm) ?_
      refine lv_aload_n hx hb dL_law_1624 rfl (lv_at hl 3 rfl) ?_
      refine kx_ci (vx_runSW (As := [.ref x1, .int (kI ((ln9 : Nat) : Int)), .int (kI (z2)), .ref out]) (rest := []) ⟨hx, hb, hml, hown, hts⟩ (wx_bendOf_n l hl9 D H x1 ((sl.map (fun a => a.1.1)).head?) hi bu st la mc9 ea F S gap ln9 z2 out hO_x1 hO_st hO_la hLs9 hLn9 (by first | assumption | omega) (by first | assumption | omega) (by first | assumption | omega) (by first | assumption | omega)) (vx_cwSW 4 hts (lw_SW q2041 q2042 q78 q2043) rfl rfl rfl (by decide +kernel) ⟨Nat.le_of_ble_eq_true rfl, Nat.le_of_ble_eq_true rfl⟩) (kx_ps hK hS hB) rfl rfl hl.1 rfl (lv_room (Nat.le_of_ble_eq_true rfl)) dL_law_1625 ⟨by first | exact Nat.le_of_ble_eq_true rfl | omega | (dsimp only [lwR]; omega) | (show _ ≤ _; omega), by first | exact Nat.le_of_ble_eq_true rfl | omega | (dsimp only [lwR]; omega) | (show _ ≤ _; omega)⟩) hS (fun q _ h => by have h9 := hS.1; (try dsimp only at h); (try dsimp only); (try simp only [kNW] at h); (try simp only [kNW]); omega) (fun q h => by have h9 := hS.1; (try dsimp only at h); (try dsimp only); (try simp only [kNW] at h); (try simp only [kNW]); omega) (fun z_45 H_43 locs_40 hz_42 hF_44 hS_41 => ?_)
      have hzf_46 := hF_44.1
      have hF_44 := hF_44.nw
      obtain ⟨hv_47, hnw_48⟩ := hz_42
      subst z_45
      refine lv_istore (lv' := [(6, .int (kI (1))), (0, .ref b), (1, .ref x1), (2, .ref mm), (3, .ref out), (4, .ref outD), (5, .int (kI ((3 * j : Nat) : Int)))]) hx hb dL_law_1628 hl (by decide) rfl (fun ls hl => ?_)
      refine lv_aload_n hx hb dL_law_1630 rfl (lv_at hl 3 rfl) ?_
      refine lv_aload_n hx hb dL_law_1631 rfl (lv_at hl 1 rfl) ?_
      refine lv_iload hx hb dL_law_1632 (lv_at hl 6 rfl) ?_
      refine kx_iconst hx hb dL_law_1634 ?_
      refine kx_iadd hx hb dL_law_1635 ?_
      refine kx_sld (i := (((3 * j : Nat) : Int) + 1)) hx hb hX hbl hbA hS_41 (3 * j + 1) (by omega) (by omega) (by omega) dL_law_1636 ?_
      refine kx_eqi (((ln9 : Nat) : Int)) (hz1.symm.trans hv1) ?_
      refine lv_aload_n hx hb dL_law_1637 rfl (lv_at hl 1 rfl) ?_
      refine lv_iload hx hb dL_law_1638 (lv_at hl 6 rfl) ?_
      refine kx_iconst hx hb dL_law_1640 ?_
      refine kx_iadd hx hb dL_law_1641 ?_
      refine kx_sld (i := (((3 * j : Nat) : Int) + 2)) hx hb hX hbl hbA hS_41 (3 * j + 2) (by omega) (by omega) (by omega) dL_law_1642 ?_
      refine kx_eqi (z2) (hz2.symm) ?_
      have h_49 := hO_mm.ex hF_44
      have h_50 := hA_ra.ex hF_44
      have h_51 := hA_sa.ex hF_44
      have h_52 := hA_ka.ex hF_44
      have h_53 := hA_ta.ex hF_44
      have ty_mm : ∀ x, x = mm → H_43.size ≤ x ∨ (kTy D H_43 x ∧ c0 ≤ x ∧ x < c1) := fun x h => by rw [h]; exact Or.inr ⟨Or.inl ⟨2, _, by decide, by decide, by decide, h_49⟩, i_mm.1, w_mm⟩
      refine kx_ci (va_runV (As := [.int (kI ((ln9 : Nat) : Int)), .int (kI (z2))]) (rest := []) ⟨hx, hb, hml, hown, hts⟩ (m_X3_bendOf_no l D H_43 mm ra sa ka ta nh ik t.length th sp9 iw le9 fi9 se9 g S gap (((ln9 : Nat) : Int)) z2 h_49 h_50 (by first | assumption | omega) (by first | assumption | omega) n_mm_ra b_mm (by first | assumption | omega) (by first | assumption | omega) (by rw [Int.toNat_natCast]; exact fun h => hA2 h.2)) (cwV 2 hts (lw_V q2536 q2537 q2538 q89 q2539) rfl rfl rfl (by decide +kernel) ⟨Nat.le_of_ble_eq_true rfl, Nat.le_of_ble_eq_true rfl⟩) (kx_pv hK hS_41 hB (kx_rc hK h_49 (C := RX3) (T := TX3) (N := 13) rfl)) rfl rfl hl.1 rfl (lv_room (Nat.le_of_ble_eq_true rfl)) dL_law_1643 ⟨by first | exact Nat.le_of_ble_eq_true rfl | omega | (dsimp only [lwR]; omega) | (show _ ≤ _; omega), by first | exact Nat.le_of_ble_eq_true rfl | omega | (dsimp only [lwR]; omega) | (show _ ≤ _; omega)⟩) hS_41 (fun q _ h => (ge_mm q) h) (fun q h => (ge_mm q) h) (fun z_59 H_57 locs_54 hz_56 hF_58 hS_55 => ?_)
      have hzf_60 := hF_58.1
      obtain ⟨hv_61, ho_62⟩ := hz_56
      subst z_59
      refine lv_istore (lv' := [(7, .int (kI (0))), (6, .int (kI (1))), (0, .ref b), (1, .ref x1), (2, .ref mm), (3, .ref out), (4, .ref outD), (5, .int (kI ((3 * j : Nat) : Int)))]) hx hb dL_law_1646 hl (by decide) rfl (fun ls hl => ?_)
      refine lv_aload_n hx hb dL_law_1648 rfl (lv_at hl 4 rfl) ?_
      refine kx_ci0 (va_runV (As := []) (rest := []) ⟨hx, hb, hml, hown, hts⟩ (m_X3_thrown l D H_57 mm ra sa ka ta nh ik t.length 1 sp9 iw le9 fi9 se9 ho_62 ) (cwV 0 hts (lw_V q2278 q2279 q2280 q89 q2281) rfl rfl rfl (by decide +kernel) ⟨Nat.le_of_ble_eq_true rfl, Nat.le_of_ble_eq_true rfl⟩) (kx_pv hK hS_55 hB (kx_rc hK ho_62 (C := RX3) (T := TX3) (N := 13) rfl)) rfl rfl hl.1 rfl (lv_room (Nat.le_of_ble_eq_true rfl)) dL_law_1649 ⟨by first | exact Nat.le_of_ble_eq_true rfl | omega | (dsimp only [lwR]; omega) | (show _ ≤ _; omega), by first | exact Nat.le_of_ble_eq_true rfl | omega | (dsimp only [lwR]; omega) | (show _ ≤ _; omega)⟩) hS_55 (fun z_66 locs_63 hz_65 hS_64 => ?_)
      subst z_66
      refine lv_iload hx hb dL_law_1652 (lv_at hl 1 rfl) ?_
      refine kx_icmp_eq (x := 1) (y := 1) (tgt := 1659) hx hb dL_law_1654 (by decide) (by omega) (by omega) (by omega) (by omega) (fun c_1654_67 => ?_) (fun c_1654_67 => ?_)
      · -- taken at 1654
        refine lv_iload hx hb dL_law_1659 (lv_at hl 1 rfl) ?_
        refine kx_if_ne (x := 1) (tgt := 1676) hx hb dL_law_1661 (by decide) (by omega) (by omega) (fun c_1661_68 => ?_) (fun c_1661_68 => ?_)
        · -- taken at 1661
          refine lv_goto (tgt := 2493) hx hb dL_law_1676 (by decide) ?_
          have h_69 := h_50.fr hF_58 (n_mm_ra.sm)
          have h_70 := h_51.fr hF_58 (n_mm_sa.sm)
          have h_71 := h_52.fr hF_58 (n_mm_ka.sm)
          have h_72 := h_53.fr hF_58 (n_mm_ta.sm)
          have h_73 := hA_out.ex hF_44
          have h_74 := h_73.fr hF_58 (n_mm_out.sm)
          have h_75 := hA_outD.ex hF_44
          have h_76 := h_75.fr hF_58 (n_mm_outD.sm)
          have h_77 := hW.ex hd9 hF_44
          have h_78 := h_77.fr hd9 hF_58 (fun x => (ty_mm x))
          refine W.widen (k := cells + 50000) (n := slots + 228000) (by omega) (by omega) ?_
          have hM9 : kM D H_57 c0 out mm (S, gap) ((sl.map Prod.snd).head?) (hl2.map Prod.snd) t := ⟨ra, sa, ka, ta, _, _, _, _, _, _, _, _, _, _, _, _, ho_62, h_69, h_70, h_71, h_72, hMr, hMh, hMk, hMt, ht60, hMd, hMb, hMi⟩
          exact kk (S, gap) ((sl.map Prod.snd).head?) (hl2.map Prod.snd) t _ _ _ ⟨hS_64, lv_sub hl [2, 3, 4, 5, 6, 7] rfl, h_78, hM9, ⟨_, h_74⟩, ⟨_, h_76⟩, by omega, by omega⟩
        · -- not taken at 1661
          exfalso; omega
      · -- not taken at 1654
        exfalso; omega
  · -- hA
    refine lv_aload_n hx hb dL_law_1611 rfl (lv_at hl 1 rfl) ?_
    refine lv_aload_n hx hb dL_law_1612 rfl (lv_at hl 0 rfl) ?_
    refine lv_iload hx hb dL_law_1613 (lv_at hl 5 rfl) ?_
    refine kx_iconst hx hb dL_law_1615 ?_
    refine kx_iadd hx hb dL_law_1616 ?_
    refine kx_sld (i := (((3 * j : Nat) : Int) + 1)) hx hb hX hbl hbA hS (3 * j + 1) (by omega) (by omega) (by omega) dL_law_1617 ?_
    refine kx_eqi (z1) (hz1.symm) ?_
    refine lv_aload_n hx hb dL_law_1618 rfl (lv_at hl 0 rfl) ?_
    refine lv_iload hx hb dL_law_1619 (lv_at hl 5 rfl) ?_
    refine kx_iconst hx hb dL_law_1621 ?_
    refine kx_iadd hx hb dL_law_1622 ?_
    refine kx_sld (i := (((3 * j : Nat) : Int) + 2)) hx hb hX hbl hbA hS (3 * j + 2) (by omega) (by omega) (by omega) dL_law_1623 ?_
    refine kx_eqi (z2) (hz2.symm) ?_
    refine lv_aload_n hx hb dL_law_1624 rfl (lv_at hl 3 rfl) ?_
    refine kx_ci (vx_runSW (As := [.ref x1, .int (kI (z1)), .int (kI (z2)), .ref out]) (rest := []) ⟨hx, hb, hml, hown, hts⟩ (wx_bendOf_l l hl9 D H x1 ((sl.map (fun a => a.1.1)).head?) hi bu st la mc9 ea F S gap z1 z2 out hO_x1 hO_st hO_la hLs9 hLn9 (by first | assumption | omega) (by first | assumption | omega) (by first | assumption | omega) (by first | assumption | omega)) (vx_cwSW 4 hts (lw_SW q2041 q2042 q78 q2043) rfl rfl rfl (by decide +kernel) ⟨Nat.le_of_ble_eq_true rfl, Nat.le_of_ble_eq_true rfl⟩) (kx_ps hK hS hB) rfl rfl hl.1 rfl (lv_room (Nat.le_of_ble_eq_true rfl)) dL_law_1625 ⟨by first | exact Nat.le_of_ble_eq_true rfl | omega | (dsimp only [lwR]; omega) | (show _ ≤ _; omega), by first | exact Nat.le_of_ble_eq_true rfl | omega | (dsimp only [lwR]; omega) | (show _ ≤ _; omega)⟩) hS (fun q _ h => by have h9 := hS.1; (try dsimp only at h); (try dsimp only); (try simp only [kNW] at h); (try simp only [kNW]); omega) (fun q h => by have h9 := hS.1; (try dsimp only at h); (try dsimp only); (try simp only [kNW] at h); (try simp only [kNW]); omega) (fun z_84 H_82 locs_79 hz_81 hF_83 hS_80 => ?_)
    have hzf_85 := hF_83.1
    have hF_83 := hF_83.nw
    obtain ⟨hv_86, hnw_87⟩ := hz_81
    subst z_84
    refine lv_istore (lv' := [(6, .int (kI (1))), (0, .ref b), (1, .ref x1), (2, .ref mm), (3, .ref out), (4, .ref outD), (5, .int (kI ((3 * j : Nat) : Int)))]) hx hb dL_law_1628 hl (by decide) rfl (fun ls hl => ?_)
    refine lv_aload_n hx hb dL_law_1630 rfl (lv_at hl 3 rfl) ?_
    refine lv_aload_n hx hb dL_law_1631 rfl (lv_at hl 1 rfl) ?_
    refine lv_iload hx hb dL_law_1632 (lv_at hl 6 rfl) ?_
    refine kx_iconst hx hb dL_law_1634 ?_
    refine kx_iadd hx hb dL_law_1635 ?_
    refine kx_sld (i := (((3 * j : Nat) : Int) + 1)) hx hb hX hbl hbA hS_80 (3 * j + 1) (by omega) (by omega) (by omega) dL_law_1636 ?_
    refine kx_eqi (z1) (hz1.symm) ?_
    refine lv_aload_n hx hb dL_law_1637 rfl (lv_at hl 1 rfl) ?_
    refine lv_iload hx hb dL_law_1638 (lv_at hl 6 rfl) ?_
    refine kx_iconst hx hb dL_law_1640 ?_
    refine kx_iadd hx hb dL_law_1641 ?_
    refine kx_sld (i := (((3 * j : Nat) : Int) + 2)) hx hb hX hbl hbA hS_80 (3 * j + 2) (by omega) (by omega) (by omega) dL_law_1642 ?_
    refine kx_eqi (z2) (hz2.symm) ?_
    have h_88 := hO_mm.ex hF_83
    have h_89 := hA_ra.ex hF_83
    have h_90 := hA_sa.ex hF_83
    have h_91 := hA_ka.ex hF_83
    have h_92 := hA_ta.ex hF_83
    have ty_mm : ∀ x, x = mm → H_82.size ≤ x ∨ (kTy D H_82 x ∧ c0 ≤ x ∧ x < c1) := fun x h => by rw [h]; exact Or.inr ⟨Or.inl ⟨2, _, by decide, by decide, by decide, h_88⟩, i_mm.1, w_mm⟩
    refine kx_ci (va_runV (As := [.int (kI (z1)), .int (kI (z2))]) (rest := []) ⟨hx, hb, hml, hown, hts⟩ (m_X3_bendOf_no l D H_82 mm ra sa ka ta nh ik t.length th sp9 iw le9 fi9 se9 g S gap z1 z2 h_88 h_89 (by first | assumption | omega) (by first | assumption | omega) n_mm_ra b_mm (by first | assumption | omega) (by first | assumption | omega) (fun h => hA h.1)) (cwV 2 hts (lw_V q2536 q2537 q2538 q89 q2539) rfl rfl rfl (by decide +kernel) ⟨Nat.le_of_ble_eq_true rfl, Nat.le_of_ble_eq_true rfl⟩) (kx_pv hK hS_80 hB (kx_rc hK h_88 (C := RX3) (T := TX3) (N := 13) rfl)) rfl rfl hl.1 rfl (lv_room (Nat.le_of_ble_eq_true rfl)) dL_law_1643 ⟨by first | exact Nat.le_of_ble_eq_true rfl | omega | (dsimp only [lwR]; omega) | (show _ ≤ _; omega), by first | exact Nat.le_of_ble_eq_true rfl | omega | (dsimp only [lwR]; omega) | (show _ ≤ _; omega)⟩) hS_80 (fun q _ h => (ge_mm q) h) (fun q h => (ge_mm q) h) (fun z_98 H_96 locs_93 hz_95 hF_97 hS_94 => ?_)
    have hzf_99 := hF_97.1
    obtain ⟨hv_100, ho_101⟩ := hz_95
    subst z_98
    refine lv_istore (lv' := [(7, .int (kI (0))), (6, .int (kI (1))), (0, .ref b), (1, .ref x1), (2, .ref mm), (3, .ref out), (4, .ref outD), (5, .int (kI ((3 * j : Nat) : Int)))]) hx hb dL_law_1646 hl (by decide) rfl (fun ls hl => ?_)
    refine lv_aload_n hx hb dL_law_1648 rfl (lv_at hl 4 rfl) ?_
    refine kx_ci0 (va_runV (As := []) (rest := []) ⟨hx, hb, hml, hown, hts⟩ (m_X3_thrown l D H_96 mm ra sa ka ta nh ik t.length 1 sp9 iw le9 fi9 se9 ho_101 ) (cwV 0 hts (lw_V q2278 q2279 q2280 q89 q2281) rfl rfl rfl (by decide +kernel) ⟨Nat.le_of_ble_eq_true rfl, Nat.le_of_ble_eq_true rfl⟩) (kx_pv hK hS_94 hB (kx_rc hK ho_101 (C := RX3) (T := TX3) (N := 13) rfl)) rfl rfl hl.1 rfl (lv_room (Nat.le_of_ble_eq_true rfl)) dL_law_1649 ⟨by first | exact Nat.le_of_ble_eq_true rfl | omega | (dsimp only [lwR]; omega) | (show _ ≤ _; omega), by first | exact Nat.le_of_ble_eq_true rfl | omega | (dsimp only [lwR]; omega) | (show _ ≤ _; omega)⟩) hS_94 (fun z_105 locs_102 hz_104 hS_103 => ?_)
    subst z_105
    refine lv_iload hx hb dL_law_1652 (lv_at hl 1 rfl) ?_
    refine kx_icmp_eq (x := 1) (y := 1) (tgt := 1659) hx hb dL_law_1654 (by decide) (by omega) (by omega) (by omega) (by omega) (fun c_1654_106 => ?_) (fun c_1654_106 => ?_)
    · -- taken at 1654
      refine lv_iload hx hb dL_law_1659 (lv_at hl 1 rfl) ?_
      refine kx_if_ne (x := 1) (tgt := 1676) hx hb dL_law_1661 (by decide) (by omega) (by omega) (fun c_1661_107 => ?_) (fun c_1661_107 => ?_)
      · -- taken at 1661
        refine lv_goto (tgt := 2493) hx hb dL_law_1676 (by decide) ?_
        have h_108 := h_89.fr hF_97 (n_mm_ra.sm)
        have h_109 := h_90.fr hF_97 (n_mm_sa.sm)
        have h_110 := h_91.fr hF_97 (n_mm_ka.sm)
        have h_111 := h_92.fr hF_97 (n_mm_ta.sm)
        have h_112 := hA_out.ex hF_83
        have h_113 := h_112.fr hF_97 (n_mm_out.sm)
        have h_114 := hA_outD.ex hF_83
        have h_115 := h_114.fr hF_97 (n_mm_outD.sm)
        have h_116 := hW.ex hd9 hF_83
        have h_117 := h_116.fr hd9 hF_97 (fun x => (ty_mm x))
        refine W.widen (k := cells + 50000) (n := slots + 228000) (by omega) (by omega) ?_
        have hM9 : kM D H_96 c0 out mm (S, gap) ((sl.map Prod.snd).head?) (hl2.map Prod.snd) t := ⟨ra, sa, ka, ta, _, _, _, _, _, _, _, _, _, _, _, _, ho_101, h_108, h_109, h_110, h_111, hMr, hMh, hMk, hMt, ht60, hMd, hMb, hMi⟩
        exact kk (S, gap) ((sl.map Prod.snd).head?) (hl2.map Prod.snd) t _ _ _ ⟨hS_103, lv_sub hl [2, 3, 4, 5, 6, 7] rfl, h_117, hM9, ⟨_, h_113⟩, ⟨_, h_115⟩, by omega, by omega⟩
      · -- not taken at 1661
        exfalso; omega
    · -- not taken at 1654
      exfalso; omega

set_option maxHeartbeats 8000000 in
set_option maxRecDepth 100000 in
theorem lc_whyNotLabelled {p : Program} {e : Env} {s : State} {m : MethodId} {below : List Frame} {meth : Method} {c : Code} {l : Launch} {D : kG} {b L c0 c1 x1 mm out outD : Nat} {xs : Nat → Int32} {Q : State → Prop} (C0 : lwC D p l s m meth c b L c0 c1 out outD xs) {j : Nat} (hj : 3 * j + 3 ≤ L) {S : Ls} {gap : Int} {sn : Option Sg} {hs : List Sg} {t : List Int} {H : Heap} {locs : List Loc} {ls : Array Slot} (I0 : lwI D s b c0 c1 x1 mm out outD j j (S, gap) sn hs t H locs ls) {cells slots : Nat} (hcl : cells + 50000 ≤ 1200144) (hsl9 : slots + 228000 ≤ 5496058) (kk : ∀ (σ : Sg) (sn : Option Sg) (hs : List Sg) (t : List Int) (H : Heap) (locs : List Loc) (ls : Array Slot), lwI D s b c0 c1 x1 mm out outD j (j + 1) σ sn hs t H locs ls → W p l e lwR s m #[Value.ref b] below meth c H locs (cells + 50000) (slots + 228000) Q (F0 m 2493 ls [])) : W p l e lwR s m #[Value.ref b] below meth c H locs cells slots Q (F0 m 1679 ls []) := by
  obtain ⟨hx, hb, hml, hown, hts, hlk, hK, hl9, hX, hbl, hbs, hL72, hc0, hco, hod, hdc⟩ := C0
  obtain ⟨hS, hl, hW, hM, ⟨go, hA_out⟩, ⟨gd, hA_outD⟩, hc1, htl⟩ := I0
  have hB : ∀ q, (kNW s.heap) q → kBase D ≤ q := fun q h => Nat.le_trans hK.size h
  have hbA : ¬ (kNW s.heap) b := fun h => by have h9 : s.heap.size ≤ b := h; omega
  have hd9 := hK.dis
  have hxE : ¬ kBase D ≤ D.2.2.2 2 := hK.tE.out
  obtain ⟨z1, hz1⟩ : ∃ z, z = (xs (3 * j + 1)).toInt := ⟨_, rfl⟩
  obtain ⟨z2, hz2⟩ : ∃ z, z = (xs (3 * j + 2)).toInt := ⟨_, rfl⟩
  have hr1 : -2147483648 ≤ z1 ∧ z1 ≤ 2147483647 := by rw [hz1]; exact i32r _
  have hr2 : -2147483648 ≤ z2 ∧ z2 ≤ 2147483647 := by rw [hz2]; exact i32r _
  obtain ⟨⟨st, la, ea, F⟩, sl, hl2, hi, es, bu, vb, hO_x1, hDq, hTx, hX5, hev, hAl, hDj, hPw, hsl, hsn, hhs⟩ := id hW
  subst hsn
  subst hhs
  obtain ⟨ra, sa, ka, ta, nh, ik, th, sp9, iw, le9, fi9, se9, g, gs, gk, gt, hO_mm, hA_ra, hA_sa, hA_ka, hA_ta, hMr, hMh, hMk, hMt, ht60, hMd, hMb, hMi⟩ := id hM
  have hMr : MRow g S gap := hMr
  have h0 := hAl _ List.mem_cons_self
  have hP_kState_st : kState D H st la ea gap S F := h0.1
  have hok : LsOK S gap := h0.2.1
  have hG : StG S := h0.2.2.1
  have hL8 : S.length ≤ 8 := hok.1
  have hgp := hok.2.1
  have hO_x1 : kO D H x1 0 [.ref st, va_rf ((sl.map (fun a => a.1.1)).head?), .ref hi, .ref bu] := hO_x1
  have hOw : ∀ q, kOwn D st la ea F S.length q → q ∉ [x1, hi, es, bu, vb] ∧ (q < c0 ∨ c1 ≤ q) := h0.2.2.2
  have hev : Hd (es ≠ vb) := hev
  have io_x1 : ∀ x, c0 ≤ x → x < c1 → x ≠ x1 := fun x => out_of (hX5 x1 (by simp)).2
  have io_hi : ∀ x, c0 ≤ x → x < c1 → x ≠ hi := fun x => out_of (hX5 hi (by simp)).2
  have io_es : ∀ x, c0 ≤ x → x < c1 → x ≠ es := fun x => out_of (hX5 es (by simp)).2
  have io_bu : ∀ x, c0 ≤ x → x < c1 → x ≠ bu := fun x => out_of (hX5 bu (by simp)).2
  have io_vb : ∀ x, c0 ≤ x → x < c1 → x ≠ vb := fun x => out_of (hX5 vb (by simp)).2
  have b_x1 := (hX5 x1 (by simp)).1
  have b_hi := (hX5 hi (by simp)).1
  have b_es := (hX5 es (by simp)).1
  have b_bu := (hX5 bu (by simp)).1
  have b_vb := (hX5 vb (by simp)).1
  obtain ⟨⟨⟨n1, n2, n3, n4⟩, n5, n6, n7⟩, n8, n9, n10⟩ := hMd
  have n_mm_ra : Hd (mm ≠ ra) := n1
  have n_mm_sa : Hd (mm ≠ sa) := n2
  have n_mm_ka : Hd (mm ≠ ka) := n3
  have n_mm_ta : Hd (mm ≠ ta) := n4
  have n_ra_sa : Hd (ra ≠ sa) := n5
  have n_ra_ka : Hd (ra ≠ ka) := n6
  have n_ra_ta : Hd (ra ≠ ta) := n7
  have n_sa_ka : Hd (sa ≠ ka) := n8
  have n_sa_ta : Hd (sa ≠ ta) := n9
  have n_ka_ta : Hd (ka ≠ ta) := n10
  have hMd : Hd (((mm ≠ ra ∧ mm ≠ sa ∧ mm ≠ ka ∧ mm ≠ ta) ∧ ra ≠ sa ∧ ra ≠ ka ∧ ra ≠ ta) ∧ sa ≠ ka ∧ sa ≠ ta ∧ ka ≠ ta) := ⟨⟨⟨n1, n2, n3, n4⟩, n5, n6, n7⟩, n8, n9, n10⟩
  clear n1 n2 n3 n4 n5 n6 n7 n8 n9 n10
  obtain ⟨b_mm, b_ra, b_sa, b_ka, b_ta⟩ := id hMb
  obtain ⟨i_mm, i_ra, i_sa, i_ka, i_ta⟩ := id hMi
  have b_out : kBase D ≤ out := by omega
  have hcc : c0 ≤ c1 := by omega
  have w_mm : mm < c1 := by omega
  have n_mm_out : Hd (mm ≠ out) := Nat.ne_of_lt i_mm.2
  have n_mm_outD : Hd (mm ≠ outD) := Nat.ne_of_lt (Nat.lt_trans i_mm.2 hod)
  have w_ra : ra < c1 := by omega
  have n_ra_out : Hd (ra ≠ out) := Nat.ne_of_lt i_ra.2
  have n_ra_outD : Hd (ra ≠ outD) := Nat.ne_of_lt (Nat.lt_trans i_ra.2 hod)
  have w_sa : sa < c1 := by omega
  have n_sa_out : Hd (sa ≠ out) := Nat.ne_of_lt i_sa.2
  have n_sa_outD : Hd (sa ≠ outD) := Nat.ne_of_lt (Nat.lt_trans i_sa.2 hod)
  have w_ka : ka < c1 := by omega
  have n_ka_out : Hd (ka ≠ out) := Nat.ne_of_lt i_ka.2
  have n_ka_outD : Hd (ka ≠ outD) := Nat.ne_of_lt (Nat.lt_trans i_ka.2 hod)
  have w_ta : ta < c1 := by omega
  have n_ta_out : Hd (ta ≠ out) := Nat.ne_of_lt i_ta.2
  have n_ta_outD : Hd (ta ≠ outD) := Nat.ne_of_lt (Nat.lt_trans i_ta.2 hod)
  have ge_mm : ∀ q, q = mm → kNW s.heap q := fun q h => by rw [h]; show s.heap.size ≤ mm; omega
  have ge_ra : ∀ q, q = ra → kNW s.heap q := fun q h => by rw [h]; show s.heap.size ≤ ra; omega
  have ge_sa : ∀ q, q = sa → kNW s.heap q := fun q h => by rw [h]; show s.heap.size ≤ sa; omega
  have ge_ka : ∀ q, q = ka → kNW s.heap q := fun q h => by rw [h]; show s.heap.size ≤ ka; omega
  have ge_ta : ∀ q, q = ta → kNW s.heap q := fun q h => by rw [h]; show s.heap.size ≤ ta; omega
  have ge_out : ∀ q, q = out → kNW s.heap q := fun q h => by rw [h]; show s.heap.size ≤ out; omega
  have n_out_outD : Hd (out ≠ outD) := Nat.ne_of_lt hod
  have w_out : out < c1 := by omega
  have w_outD : outD < c1 := hdc
  have i_outD : c0 ≤ outD := by omega
  have htyo : kTy D H out := Or.inr ⟨2, _, by decide, hA_out⟩
  have htyd : kTy D H outD := Or.inr ⟨3, _, by decide, hA_outD⟩
  have to_out : ∀ x, x = out → H.size ≤ x ∨ (kTy D H x ∧ c0 ≤ x ∧ x < c1) := fun x h => by rw [h]; exact Or.inr ⟨htyo, hco, w_out⟩
  have to_outD : ∀ x, x = outD → H.size ≤ x ∨ (kTy D H x ∧ c0 ≤ x ∧ x < c1) := fun x h => by rw [h]; exact Or.inr ⟨htyd, i_outD, w_outD⟩
  obtain ⟨⟨hO_st, mc9, hO_la⟩, hLs9, hLn9, hF9, hDs9, hb1, hb2, hb3⟩ := id hP_kState_st
  by_cases hA : 0 ≤ z1 ∧ z1 < (S.length : Int)
  · -- hA
    obtain ⟨ln9, hv1⟩ : ∃ k : Nat, z1 = (k : Int) := ⟨z1.toNat, by omega⟩
    have hln : ln9 < S.length := by omega
    have hLn := hok.ln hln
    by_cases hA2 : 0 ≤ z2 ∧ z2 ≤ (ln_n (st_ln S ln9) : Int)
    · -- hA2
      obtain ⟨pl9, hv2⟩ : ∃ k : Nat, z2 = (k : Int) := ⟨z2.toNat, by omega⟩
      have hpl : pl9 ≤ ln_n (st_ln S ln9) := by omega
      have hr9 := st_whyL_rng S gap ln9 pl9
      have hrv : -2147483648 ≤ st_whyL S gap ln9 pl9 ∧ st_whyL S gap ln9 pl9 ≤ 2147483647 := ⟨by omega, by omega⟩
      refine lv_aload_n hx hb dL_law_1679 rfl (lv_at hl 1 rfl) ?_
      refine lv_aload_n hx hb dL_law_1680 rfl (lv_at hl 0 rfl) ?_
      refine lv_iload hx hb dL_law_1681 (lv_at hl 5 rfl) ?_
      refine kx_iconst hx hb dL_law_1683 ?_
      refine kx_iadd hx hb dL_law_1684 ?_
      refine kx_sld (i := (((3 * j : Nat) : Int) + 1)) hx hb hX hbl hbA hS (3 * j + 1) (by omega) (by omega) (by omega) dL_law_1685 ?_
      refine kx_eqi (((ln9 : Nat) : Int)) (hz1.symm.trans hv1) ?_
      refine lv_aload_n hx hb dL_law_1686 rfl (lv_at hl 0 rfl) ?_
      refine lv_iload hx hb dL_law_1687 (lv_at hl 5 rfl) ?_
      refine kx_iconst hx hb dL_law_1689 ?_
      refine kx_iadd hx hb dL_law_1690 ?_
      refine kx_sld (i := (((3 * j : Nat) : Int) + 2)) hx hb hX hbl hbA hS (3 * j + 2) (by omega) (by omega) (by omega) dL_law_1691 ?_
      refine kx_eqi (((pl9 : Nat) : Int)) (hz2.symm.trans hv2) ?_
      refine lv_aload_n hx hb dL_law_1692 rfl (lv_at hl 3 rfl) ?_
      refine kx_ci (vx_runSW (As := [.ref x1, .int (kI ((ln9 : Nat) : Int)), .int (kI ((pl9 : Nat) : Int)), .ref out]) (rest := []) ⟨hx, hb, hml, hown, hts⟩ (wr_whyNotLabelled l hl9 D H x1 ((sl.map (fun a => a.1.1)).head?) hi bu st la mc9 ea F S gap ln9 pl9 out go hO_x1 hO_st hO_la hLs9 hLn9 hA_out (by first | assumption | omega) (by first | assumption | omega) (by first | assumption | omega) (by first | assumption | omega) (by first | assumption | omega)) (vx_cwSW 4 hts (lw_SW q2049 q2050 q78 q2051) rfl rfl rfl (by decide +kernel) ⟨Nat.le_of_ble_eq_true rfl, Nat.le_of_ble_eq_true rfl⟩) (kx_ps hK hS hB) rfl rfl hl.1 rfl (lv_room (Nat.le_of_ble_eq_true rfl)) dL_law_1693 ⟨by first | exact Nat.le_of_ble_eq_true rfl | omega | (dsimp only [lwR]; omega) | (show _ ≤ _; omega), by first | exact Nat.le_of_ble_eq_true rfl | omega | (dsimp only [lwR]; omega) | (show _ ≤ _; omega)⟩) hS (fun q _ h => (fun h => Or.elim h (ge_out q) (fun h => Nat.le_trans hS.1 h)) h) (fun q h => (fun h => Or.elim h (ge_out q) (fun h => Nat.le_trans hS.1 h)) h) (fun z_6 H_4 locs_1 hz_3 hF_5 hS_2 => ?_)
      have hzf_7 := hF_5.1
      obtain ⟨hv_8, ho_9⟩ := hz_3
      subst z_6
      refine lv_istore (lv' := [(6, .int (kI (0))), (0, .ref b), (1, .ref x1), (2, .ref mm), (3, .ref out), (4, .ref outD), (5, .int (kI ((3 * j : Nat) : Int)))]) hx hb dL_law_1696 hl (by decide) rfl (fun ls hl => ?_)
      refine lv_aload_n hx hb dL_law_1698 rfl (lv_at hl 3 rfl) ?_
      refine lv_aload_n hx hb dL_law_1699 rfl (lv_at hl 1 rfl) ?_
      refine lv_iload hx hb dL_law_1700 (lv_at hl 6 rfl) ?_
      refine kx_iconst hx hb dL_law_1702 ?_
      refine kx_iadd hx hb dL_law_1703 ?_
      refine kx_sld (i := (((3 * j : Nat) : Int) + 1)) hx hb hX hbl hbA hS_2 (3 * j + 1) (by omega) (by omega) (by omega) dL_law_1704 ?_
      refine kx_eqi (((ln9 : Nat) : Int)) (hz1.symm.trans hv1) ?_
      refine lv_aload_n hx hb dL_law_1705 rfl (lv_at hl 1 rfl) ?_
      refine lv_iload hx hb dL_law_1706 (lv_at hl 6 rfl) ?_
      refine kx_iconst hx hb dL_law_1708 ?_
      refine kx_iadd hx hb dL_law_1709 ?_
      refine kx_sld (i := (((3 * j : Nat) : Int) + 2)) hx hb hX hbl hbA hS_2 (3 * j + 2) (by omega) (by omega) (by omega) dL_law_1710 ?_
      refine kx_eqi (((pl9 : Nat) : Int)) (hz2.symm.trans hv2) ?_
      have h_10 := hO_mm.fr hF_5 (fun h => Or.elim h (n_mm_out) (fun h => Nat.not_le_of_gt hO_mm.lt h))
      have h_11 := hA_ra.fr hF_5 (fun h => Or.elim h (n_ra_out) (fun h => Nat.not_le_of_gt hA_ra.lt h))
      have h_12 := hA_sa.fr hF_5 (fun h => Or.elim h (n_sa_out) (fun h => Nat.not_le_of_gt hA_sa.lt h))
      have h_13 := hA_ka.fr hF_5 (fun h => Or.elim h (n_ka_out) (fun h => Nat.not_le_of_gt hA_ka.lt h))
      have h_14 := hA_ta.fr hF_5 (fun h => Or.elim h (n_ta_out) (fun h => Nat.not_le_of_gt hA_ta.lt h))
      have ty_mm : ∀ x, x = mm → H_4.size ≤ x ∨ (kTy D H_4 x ∧ c0 ≤ x ∧ x < c1) := fun x h => by rw [h]; exact Or.inr ⟨Or.inl ⟨2, _, by decide, by decide, by decide, h_10⟩, i_mm.1, w_mm⟩
      refine kx_ci (va_runV (As := [.int (kI ((ln9 : Nat) : Int)), .int (kI ((pl9 : Nat) : Int))]) (rest := []) ⟨hx, hb, hml, hown, hts⟩ (m_X3_whyNotLabelled l D H_4 mm ra sa ka ta nh ik t.length th sp9 iw le9 fi9 se9 g S gap ln9 pl9 h_10 h_11 (by first | assumption | omega) (by first | assumption | omega) n_mm_ra b_mm (by first | assumption | omega) (by first | assumption | omega)) (cwV 2 hts (lw_V q2540 q2541 q2542 q89 q2543) rfl rfl rfl (by decide +kernel) ⟨Nat.le_of_ble_eq_true rfl, Nat.le_of_ble_eq_true rfl⟩) (kx_pv hK hS_2 hB (kx_rc hK h_10 (C := RX3) (T := TX3) (N := 13) rfl)) rfl rfl hl.1 rfl (lv_room (Nat.le_of_ble_eq_true rfl)) dL_law_1711 ⟨by first | exact Nat.le_of_ble_eq_true rfl | omega | (dsimp only [lwR]; omega) | (show _ ≤ _; omega), by first | exact Nat.le_of_ble_eq_true rfl | omega | (dsimp only [lwR]; omega) | (show _ ≤ _; omega)⟩) hS_2 (fun q _ h => (ge_mm q) h) (fun q h => (ge_mm q) h) (fun z_20 H_18 locs_15 hz_17 hF_19 hS_16 => ?_)
      have hzf_21 := hF_19.1
      obtain ⟨hv_22, ho_23⟩ := hz_17
      subst z_20
      refine lv_istore (lv' := [(7, .int (kI (st_whyL S gap ln9 pl9))), (6, .int (kI (0))), (0, .ref b), (1, .ref x1), (2, .ref mm), (3, .ref out), (4, .ref outD), (5, .int (kI ((3 * j : Nat) : Int)))]) hx hb dL_law_1714 hl (by decide) rfl (fun ls hl => ?_)
      refine lv_aload_n hx hb dL_law_1716 rfl (lv_at hl 4 rfl) ?_
      refine kx_ci0 (va_runV (As := []) (rest := []) ⟨hx, hb, hml, hown, hts⟩ (m_X3_thrown l D H_18 mm ra sa ka ta nh ik t.length 0 sp9 iw le9 fi9 se9 ho_23 ) (cwV 0 hts (lw_V q2278 q2279 q2280 q89 q2281) rfl rfl rfl (by decide +kernel) ⟨Nat.le_of_ble_eq_true rfl, Nat.le_of_ble_eq_true rfl⟩) (kx_pv hK hS_16 hB (kx_rc hK ho_23 (C := RX3) (T := TX3) (N := 13) rfl)) rfl rfl hl.1 rfl (lv_room (Nat.le_of_ble_eq_true rfl)) dL_law_1717 ⟨by first | exact Nat.le_of_ble_eq_true rfl | omega | (dsimp only [lwR]; omega) | (show _ ≤ _; omega), by first | exact Nat.le_of_ble_eq_true rfl | omega | (dsimp only [lwR]; omega) | (show _ ≤ _; omega)⟩) hS_16 (fun z_27 locs_24 hz_26 hS_25 => ?_)
      subst z_27
      refine lv_iload hx hb dL_law_1720 (lv_at hl 1 rfl) ?_
      refine kx_icmp_eq (x := 0) (y := 0) (tgt := 1727) hx hb dL_law_1722 (by decide) (by omega) (by omega) (by omega) (by omega) (fun c_1722_28 => ?_) (fun c_1722_28 => ?_)
      · -- taken at 1722
        refine lv_iload hx hb dL_law_1727 (lv_at hl 1 rfl) ?_
        refine kx_if_ne (x := 0) (tgt := 1744) hx hb dL_law_1729 (by decide) (by omega) (by omega) (fun c_1729_29 => ?_) (fun c_1729_29 => ?_)
        · -- taken at 1729
          exfalso; omega
        · -- not taken at 1729
          refine lv_aload_n hx hb dL_law_1732 rfl (lv_at hl 5 rfl) ?_
          refine kx_iconst hx hb dL_law_1733 ?_
          have h_30 := ho_9.fr hF_19 (n_mm_out.sm)
          refine kx_lald (i := 0) hx hb hK h_30 0 rfl (by decide) (by decide) dL_law_1734 ?_
          refine lv_iload hx hb dL_law_1735 (lv_at hl 0 rfl) ?_
          refine kx_i2l hx hb (z := st_whyL S gap ln9 pl9) (by omega) (by omega) dL_law_1737 ?_
          refine kx_lcmpE hx hb (x := ((kup go 0 (kL (st_whyL S gap ln9 pl9)))) 0) (y := kL (st_whyL S gap ln9 pl9)) (kup_self _ _ _) dL_law_1738 ?_
          refine kx_if_eq (x := 0) (tgt := 1744) hx hb dL_law_1739 (by decide) (by omega) (by omega) (fun c_1739_31 => ?_) (fun c_1739_31 => ?_)
          · -- taken at 1739
            refine lv_goto (tgt := 2493) hx hb dL_law_1744 (by decide) ?_
            have h_32 := h_11.fr hF_19 (n_mm_ra.sm)
            have h_33 := h_12.fr hF_19 (n_mm_sa.sm)
            have h_34 := h_13.fr hF_19 (n_mm_ka.sm)
            have h_35 := h_14.fr hF_19 (n_mm_ta.sm)
            have h_36 := hA_outD.fr hF_5 (fun h => Or.elim h (n_out_outD.sm) (fun h => Nat.not_le_of_gt hA_outD.lt h))
            have h_37 := h_36.fr hF_19 (n_mm_outD.sm)
            have h_38 := hW.fr hd9 hF_5 (fun x => (fun h => Or.elim h (to_out x) (fun h => Or.inl h)))
            have h_39 := h_38.fr hd9 hF_19 (fun x => (ty_mm x))
            refine W.widen (k := cells + 50000) (n := slots + 228000) (by omega) (by omega) ?_
            have hM9 : kM D H_18 c0 out mm (S, gap) ((sl.map Prod.snd).head?) (hl2.map Prod.snd) t := ⟨ra, sa, ka, ta, _, _, _, _, _, _, _, _, _, _, _, _, ho_23, h_32, h_33, h_34, h_35, hMr, hMh, hMk, hMt, ht60, hMd, hMb, hMi⟩
            exact kk (S, gap) ((sl.map Prod.snd).head?) (hl2.map Prod.snd) t _ _ _ ⟨hS_25, lv_sub hl [2, 3, 4, 5, 6, 7] rfl, h_39, hM9, ⟨_, h_30⟩, ⟨_, h_37⟩, by omega, by omega⟩
          · -- not taken at 1739
            exfalso; omega
      · -- not taken at 1722
        exfalso; omega
    · -- hA2
      refine lv_aload_n hx hb dL_law_1679 rfl (lv_at hl 1 rfl) ?_
      refine lv_aload_n hx hb dL_law_1680 rfl (lv_at hl 0 rfl) ?_
      refine lv_iload hx hb dL_law_1681 (lv_at hl 5 rfl) ?_
      refine kx_iconst hx hb dL_law_1683 ?_
      refine kx_iadd hx hb dL_law_1684 ?_
      refine kx_sld (i := (((3 * j : Nat) : Int) + 1)) hx hb hX hbl hbA hS (3 * j + 1) (by omega) (by omega) (by omega) dL_law_1685 ?_
      refine kx_eqi (((ln9 : Nat) : Int)) (hz1.symm.trans hv1) ?_
      refine lv_aload_n hx hb dL_law_1686 rfl (lv_at hl 0 rfl) ?_
      refine lv_iload hx hb dL_law_1687 (lv_at hl 5 rfl) ?_
      refine kx_iconst hx hb dL_law_1689 ?_
      refine kx_iadd hx hb dL_law_1690 ?_
      refine kx_sld (i := (((3 * j : Nat) : Int) + 2)) hx hb hX hbl hbA hS (3 * j + 2) (by omega) (by omega) (by omega) dL_law_1691 ?_
      refine kx_eqi (z2) (hz2.symm) ?_
      refine lv_aload_n hx hb dL_law_1692 rfl (lv_at hl 3 rfl) ?_
      refine kx_ci (vx_runSW (As := [.ref x1, .int (kI ((ln9 : Nat) : Int)), .int (kI (z2)), .ref out]) (rest := []) ⟨hx, hb, hml, hown, hts⟩ (wx_whyNotLabelled_n l hl9 D H x1 ((sl.map (fun a => a.1.1)).head?) hi bu st la mc9 ea F S gap ln9 z2 out hO_x1 hO_st hO_la hLs9 hLn9 (by first | assumption | omega) (by first | assumption | omega) (by first | assumption | omega) (by first | assumption | omega)) (vx_cwSW 4 hts (lw_SW q2049 q2050 q78 q2051) rfl rfl rfl (by decide +kernel) ⟨Nat.le_of_ble_eq_true rfl, Nat.le_of_ble_eq_true rfl⟩) (kx_ps hK hS hB) rfl rfl hl.1 rfl (lv_room (Nat.le_of_ble_eq_true rfl)) dL_law_1693 ⟨by first | exact Nat.le_of_ble_eq_true rfl | omega | (dsimp only [lwR]; omega) | (show _ ≤ _; omega), by first | exact Nat.le_of_ble_eq_true rfl | omega | (dsimp only [lwR]; omega) | (show _ ≤ _; omega)⟩) hS (fun q _ h => by have h9 := hS.1; (try dsimp only at h); (try dsimp only); (try simp only [kNW] at h); (try simp only [kNW]); omega) (fun q h => by have h9 := hS.1; (try dsimp only at h); (try dsimp only); (try simp only [kNW] at h); (try simp only [kNW]); omega) (fun z_45 H_43 locs_40 hz_42 hF_44 hS_41 => ?_)
      have hzf_46 := hF_44.1
      have hF_44 := hF_44.nw
      obtain ⟨hv_47, hnw_48⟩ := hz_42
      subst z_45
      refine lv_istore (lv' := [(6, .int (kI (1))), (0, .ref b), (1, .ref x1), (2, .ref mm), (3, .ref out), (4, .ref outD), (5, .int (kI ((3 * j : Nat) : Int)))]) hx hb dL_law_1696 hl (by decide) rfl (fun ls hl => ?_)
      refine lv_aload_n hx hb dL_law_1698 rfl (lv_at hl 3 rfl) ?_
      refine lv_aload_n hx hb dL_law_1699 rfl (lv_at hl 1 rfl) ?_
      refine lv_iload hx hb dL_law_1700 (lv_at hl 6 rfl) ?_
      refine kx_iconst hx hb dL_law_1702 ?_
      refine kx_iadd hx hb dL_law_1703 ?_
      refine kx_sld (i := (((3 * j : Nat) : Int) + 1)) hx hb hX hbl hbA hS_41 (3 * j + 1) (by omega) (by omega) (by omega) dL_law_1704 ?_
      refine kx_eqi (((ln9 : Nat) : Int)) (hz1.symm.trans hv1) ?_
      refine lv_aload_n hx hb dL_law_1705 rfl (lv_at hl 1 rfl) ?_
      refine lv_iload hx hb dL_law_1706 (lv_at hl 6 rfl) ?_
      refine kx_iconst hx hb dL_law_1708 ?_
      refine kx_iadd hx hb dL_law_1709 ?_
      refine kx_sld (i := (((3 * j : Nat) : Int) + 2)) hx hb hX hbl hbA hS_41 (3 * j + 2) (by omega) (by omega) (by omega) dL_law_1710 ?_
      refine kx_eqi (z2) (hz2.symm) ?_
      have h_49 := hO_mm.ex hF_44
      have h_50 := hA_ra.ex hF_44
      have h_51 := hA_sa.ex hF_44
      have h_52 := hA_ka.ex hF_44
      have h_53 := hA_ta.ex hF_44
      have ty_mm : ∀ x, x = mm → H_43.size ≤ x ∨ (kTy D H_43 x ∧ c0 ≤ x ∧ x < c1) := fun x h => by rw [h]; exact Or.inr ⟨Or.inl ⟨2, _, by decide, by decide, by decide, h_49⟩, i_mm.1, w_mm⟩
      refine kx_ci (va_runV (As := [.int (kI ((ln9 : Nat) : Int)), .int (kI (z2))]) (rest := []) ⟨hx, hb, hml, hown, hts⟩ (m_X3_whyNotLabelled_no l D H_43 mm ra sa ka ta nh ik t.length th sp9 iw le9 fi9 se9 g S gap (((ln9 : Nat) : Int)) z2 h_49 h_50 (by first | assumption | omega) (by first | assumption | omega) n_mm_ra b_mm (by first | assumption | omega) (by first | assumption | omega) (by rw [Int.toNat_natCast]; exact fun h => hA2 h.2)) (cwV 2 hts (lw_V q2540 q2541 q2542 q89 q2543) rfl rfl rfl (by decide +kernel) ⟨Nat.le_of_ble_eq_true rfl, Nat.le_of_ble_eq_true rfl⟩) (kx_pv hK hS_41 hB (kx_rc hK h_49 (C := RX3) (T := TX3) (N := 13) rfl)) rfl rfl hl.1 rfl (lv_room (Nat.le_of_ble_eq_true rfl)) dL_law_1711 ⟨by first | exact Nat.le_of_ble_eq_true rfl | omega | (dsimp only [lwR]; omega) | (show _ ≤ _; omega), by first | exact Nat.le_of_ble_eq_true rfl | omega | (dsimp only [lwR]; omega) | (show _ ≤ _; omega)⟩) hS_41 (fun q _ h => (ge_mm q) h) (fun q h => (ge_mm q) h) (fun z_59 H_57 locs_54 hz_56 hF_58 hS_55 => ?_)
      have hzf_60 := hF_58.1
      obtain ⟨hv_61, ho_62⟩ := hz_56
      subst z_59
      refine lv_istore (lv' := [(7, .int (kI (0))), (6, .int (kI (1))), (0, .ref b), (1, .ref x1), (2, .ref mm), (3, .ref out), (4, .ref outD), (5, .int (kI ((3 * j : Nat) : Int)))]) hx hb dL_law_1714 hl (by decide) rfl (fun ls hl => ?_)
      refine lv_aload_n hx hb dL_law_1716 rfl (lv_at hl 4 rfl) ?_
      refine kx_ci0 (va_runV (As := []) (rest := []) ⟨hx, hb, hml, hown, hts⟩ (m_X3_thrown l D H_57 mm ra sa ka ta nh ik t.length 1 sp9 iw le9 fi9 se9 ho_62 ) (cwV 0 hts (lw_V q2278 q2279 q2280 q89 q2281) rfl rfl rfl (by decide +kernel) ⟨Nat.le_of_ble_eq_true rfl, Nat.le_of_ble_eq_true rfl⟩) (kx_pv hK hS_55 hB (kx_rc hK ho_62 (C := RX3) (T := TX3) (N := 13) rfl)) rfl rfl hl.1 rfl (lv_room (Nat.le_of_ble_eq_true rfl)) dL_law_1717 ⟨by first | exact Nat.le_of_ble_eq_true rfl | omega | (dsimp only [lwR]; omega) | (show _ ≤ _; omega), by first | exact Nat.le_of_ble_eq_true rfl | omega | (dsimp only [lwR]; omega) | (show _ ≤ _; omega)⟩) hS_55 (fun z_66 locs_63 hz_65 hS_64 => ?_)
      subst z_66
      refine lv_iload hx hb dL_law_1720 (lv_at hl 1 rfl) ?_
      refine kx_icmp_eq (x := 1) (y := 1) (tgt := 1727) hx hb dL_law_1722 (by decide) (by omega) (by omega) (by omega) (by omega) (fun c_1722_67 => ?_) (fun c_1722_67 => ?_)
      · -- taken at 1722
        refine lv_iload hx hb dL_law_1727 (lv_at hl 1 rfl) ?_
        refine kx_if_ne (x := 1) (tgt := 1744) hx hb dL_law_1729 (by decide) (by omega) (by omega) (fun c_1729_68 => ?_) (fun c_1729_68 => ?_)
        · -- taken at 1729
          refine lv_goto (tgt := 2493) hx hb dL_law_1744 (by decide) ?_
          have h_69 := h_50.fr hF_58 (n_mm_ra.sm)
          have h_70 := h_51.fr hF_58 (n_mm_sa.sm)
          have h_71 := h_52.fr hF_58 (n_mm_ka.sm)
          have h_72 := h_53.fr hF_58 (n_mm_ta.sm)
          have h_73 := hA_out.ex hF_44
          have h_74 := h_73.fr hF_58 (n_mm_out.sm)
          have h_75 := hA_outD.ex hF_44
          have h_76 := h_75.fr hF_58 (n_mm_outD.sm)
          have h_77 := hW.ex hd9 hF_44
          have h_78 := h_77.fr hd9 hF_58 (fun x => (ty_mm x))
          refine W.widen (k := cells + 50000) (n := slots + 228000) (by omega) (by omega) ?_
          have hM9 : kM D H_57 c0 out mm (S, gap) ((sl.map Prod.snd).head?) (hl2.map Prod.snd) t := ⟨ra, sa, ka, ta, _, _, _, _, _, _, _, _, _, _, _, _, ho_62, h_69, h_70, h_71, h_72, hMr, hMh, hMk, hMt, ht60, hMd, hMb, hMi⟩
          exact kk (S, gap) ((sl.map Prod.snd).head?) (hl2.map Prod.snd) t _ _ _ ⟨hS_64, lv_sub hl [2, 3, 4, 5, 6, 7] rfl, h_78, hM9, ⟨_, h_74⟩, ⟨_, h_76⟩, by omega, by omega⟩
        · -- not taken at 1729
          exfalso; omega
      · -- not taken at 1722
        exfalso; omega
  · -- hA
    refine lv_aload_n hx hb dL_law_1679 rfl (lv_at hl 1 rfl) ?_
    refine lv_aload_n hx hb dL_law_1680 rfl (lv_at hl 0 rfl) ?_
    refine lv_iload hx hb dL_law_1681 (lv_at hl 5 rfl) ?_
    refine kx_iconst hx hb dL_law_1683 ?_
    refine kx_iadd hx hb dL_law_1684 ?_
    refine kx_sld (i := (((3 * j : Nat) : Int) + 1)) hx hb hX hbl hbA hS (3 * j + 1) (by omega) (by omega) (by omega) dL_law_1685 ?_
    refine kx_eqi (z1) (hz1.symm) ?_
    refine lv_aload_n hx hb dL_law_1686 rfl (lv_at hl 0 rfl) ?_
    refine lv_iload hx hb dL_law_1687 (lv_at hl 5 rfl) ?_
    refine kx_iconst hx hb dL_law_1689 ?_
    refine kx_iadd hx hb dL_law_1690 ?_
    refine kx_sld (i := (((3 * j : Nat) : Int) + 2)) hx hb hX hbl hbA hS (3 * j + 2) (by omega) (by omega) (by omega) dL_law_1691 ?_
    refine kx_eqi (z2) (hz2.symm) ?_
    refine lv_aload_n hx hb dL_law_1692 rfl (lv_at hl 3 rfl) ?_
    refine kx_ci (vx_runSW (As := [.ref x1, .int (kI (z1)), .int (kI (z2)), .ref out]) (rest := []) ⟨hx, hb, hml, hown, hts⟩ (wx_whyNotLabelled_l l hl9 D H x1 ((sl.map (fun a => a.1.1)).head?) hi bu st la mc9 ea F S gap z1 z2 out hO_x1 hO_st hO_la hLs9 hLn9 (by first | assumption | omega) (by first | assumption | omega) (by first | assumption | omega) (by first | assumption | omega)) (vx_cwSW 4 hts (lw_SW q2049 q2050 q78 q2051) rfl rfl rfl (by decide +kernel) ⟨Nat.le_of_ble_eq_true rfl, Nat.le_of_ble_eq_true rfl⟩) (kx_ps hK hS hB) rfl rfl hl.1 rfl (lv_room (Nat.le_of_ble_eq_true rfl)) dL_law_1693 ⟨by first | exact Nat.le_of_ble_eq_true rfl | omega | (dsimp only [lwR]; omega) | (show _ ≤ _; omega), by first | exact Nat.le_of_ble_eq_true rfl | omega | (dsimp only [lwR]; omega) | (show _ ≤ _; omega)⟩) hS (fun q _ h => by have h9 := hS.1; (try dsimp only at h); (try dsimp only); (try simp only [kNW] at h); (try simp only [kNW]); omega) (fun q h => by have h9 := hS.1; (try dsimp only at h); (try dsimp only); (try simp only [kNW] at h); (try simp only [kNW]); omega) (fun z_84 H_82 locs_79 hz_81 hF_83 hS_80 => ?_)
    have hzf_85 := hF_83.1
    have hF_83 := hF_83.nw
    obtain ⟨hv_86, hnw_87⟩ := hz_81
    subst z_84
    refine lv_istore (lv' := [(6, .int (kI (1))), (0, .ref b), (1, .ref x1), (2, .ref mm), (3, .ref out), (4, .ref outD), (5, .int (kI ((3 * j : Nat) : Int)))]) hx hb dL_law_1696 hl (by decide) rfl (fun ls hl => ?_)
    refine lv_aload_n hx hb dL_law_1698 rfl (lv_at hl 3 rfl) ?_
    refine lv_aload_n hx hb dL_law_1699 rfl (lv_at hl 1 rfl) ?_
    refine lv_iload hx hb dL_law_1700 (lv_at hl 6 rfl) ?_
    refine kx_iconst hx hb dL_law_1702 ?_
    refine kx_iadd hx hb dL_law_1703 ?_
    refine kx_sld (i := (((3 * j : Nat) : Int) + 1)) hx hb hX hbl hbA hS_80 (3 * j + 1) (by omega) (by omega) (by omega) dL_law_1704 ?_
    refine kx_eqi (z1) (hz1.symm) ?_
    refine lv_aload_n hx hb dL_law_1705 rfl (lv_at hl 1 rfl) ?_
    refine lv_iload hx hb dL_law_1706 (lv_at hl 6 rfl) ?_
    refine kx_iconst hx hb dL_law_1708 ?_
    refine kx_iadd hx hb dL_law_1709 ?_
    refine kx_sld (i := (((3 * j : Nat) : Int) + 2)) hx hb hX hbl hbA hS_80 (3 * j + 2) (by omega) (by omega) (by omega) dL_law_1710 ?_
    refine kx_eqi (z2) (hz2.symm) ?_
    have h_88 := hO_mm.ex hF_83
    have h_89 := hA_ra.ex hF_83
    have h_90 := hA_sa.ex hF_83
    have h_91 := hA_ka.ex hF_83
    have h_92 := hA_ta.ex hF_83
    have ty_mm : ∀ x, x = mm → H_82.size ≤ x ∨ (kTy D H_82 x ∧ c0 ≤ x ∧ x < c1) := fun x h => by rw [h]; exact Or.inr ⟨Or.inl ⟨2, _, by decide, by decide, by decide, h_88⟩, i_mm.1, w_mm⟩
    refine kx_ci (va_runV (As := [.int (kI (z1)), .int (kI (z2))]) (rest := []) ⟨hx, hb, hml, hown, hts⟩ (m_X3_whyNotLabelled_no l D H_82 mm ra sa ka ta nh ik t.length th sp9 iw le9 fi9 se9 g S gap z1 z2 h_88 h_89 (by first | assumption | omega) (by first | assumption | omega) n_mm_ra b_mm (by first | assumption | omega) (by first | assumption | omega) (fun h => hA h.1)) (cwV 2 hts (lw_V q2540 q2541 q2542 q89 q2543) rfl rfl rfl (by decide +kernel) ⟨Nat.le_of_ble_eq_true rfl, Nat.le_of_ble_eq_true rfl⟩) (kx_pv hK hS_80 hB (kx_rc hK h_88 (C := RX3) (T := TX3) (N := 13) rfl)) rfl rfl hl.1 rfl (lv_room (Nat.le_of_ble_eq_true rfl)) dL_law_1711 ⟨by first | exact Nat.le_of_ble_eq_true rfl | omega | (dsimp only [lwR]; omega) | (show _ ≤ _; omega), by first | exact Nat.le_of_ble_eq_true rfl | omega | (dsimp only [lwR]; omega) | (show _ ≤ _; omega)⟩) hS_80 (fun q _ h => (ge_mm q) h) (fun q h => (ge_mm q) h) (fun z_98 H_96 locs_93 hz_95 hF_97 hS_94 => ?_)
    have hzf_99 := hF_97.1
    obtain ⟨hv_100, ho_101⟩ := hz_95
    subst z_98
    refine lv_istore (lv' := [(7, .int (kI (0))), (6, .int (kI (1))), (0, .ref b), (1, .ref x1), (2, .ref mm), (3, .ref out), (4, .ref outD), (5, .int (kI ((3 * j : Nat) : Int)))]) hx hb dL_law_1714 hl (by decide) rfl (fun ls hl => ?_)
    refine lv_aload_n hx hb dL_law_1716 rfl (lv_at hl 4 rfl) ?_
    refine kx_ci0 (va_runV (As := []) (rest := []) ⟨hx, hb, hml, hown, hts⟩ (m_X3_thrown l D H_96 mm ra sa ka ta nh ik t.length 1 sp9 iw le9 fi9 se9 ho_101 ) (cwV 0 hts (lw_V q2278 q2279 q2280 q89 q2281) rfl rfl rfl (by decide +kernel) ⟨Nat.le_of_ble_eq_true rfl, Nat.le_of_ble_eq_true rfl⟩) (kx_pv hK hS_94 hB (kx_rc hK ho_101 (C := RX3) (T := TX3) (N := 13) rfl)) rfl rfl hl.1 rfl (lv_room (Nat.le_of_ble_eq_true rfl)) dL_law_1717 ⟨by first | exact Nat.le_of_ble_eq_true rfl | omega | (dsimp only [lwR]; omega) | (show _ ≤ _; omega), by first | exact Nat.le_of_ble_eq_true rfl | omega | (dsimp only [lwR]; omega) | (show _ ≤ _; omega)⟩) hS_94 (fun z_105 locs_102 hz_104 hS_103 => ?_)
    subst z_105
    refine lv_iload hx hb dL_law_1720 (lv_at hl 1 rfl) ?_
    refine kx_icmp_eq (x := 1) (y := 1) (tgt := 1727) hx hb dL_law_1722 (by decide) (by omega) (by omega) (by omega) (by omega) (fun c_1722_106 => ?_) (fun c_1722_106 => ?_)
    · -- taken at 1722
      refine lv_iload hx hb dL_law_1727 (lv_at hl 1 rfl) ?_
      refine kx_if_ne (x := 1) (tgt := 1744) hx hb dL_law_1729 (by decide) (by omega) (by omega) (fun c_1729_107 => ?_) (fun c_1729_107 => ?_)
      · -- taken at 1729
        refine lv_goto (tgt := 2493) hx hb dL_law_1744 (by decide) ?_
        have h_108 := h_89.fr hF_97 (n_mm_ra.sm)
        have h_109 := h_90.fr hF_97 (n_mm_sa.sm)
        have h_110 := h_91.fr hF_97 (n_mm_ka.sm)
        have h_111 := h_92.fr hF_97 (n_mm_ta.sm)
        have h_112 := hA_out.ex hF_83
        have h_113 := h_112.fr hF_97 (n_mm_out.sm)
        have h_114 := hA_outD.ex hF_83
        have h_115 := h_114.fr hF_97 (n_mm_outD.sm)
        have h_116 := hW.ex hd9 hF_83
        have h_117 := h_116.fr hd9 hF_97 (fun x => (ty_mm x))
        refine W.widen (k := cells + 50000) (n := slots + 228000) (by omega) (by omega) ?_
        have hM9 : kM D H_96 c0 out mm (S, gap) ((sl.map Prod.snd).head?) (hl2.map Prod.snd) t := ⟨ra, sa, ka, ta, _, _, _, _, _, _, _, _, _, _, _, _, ho_101, h_108, h_109, h_110, h_111, hMr, hMh, hMk, hMt, ht60, hMd, hMb, hMi⟩
        exact kk (S, gap) ((sl.map Prod.snd).head?) (hl2.map Prod.snd) t _ _ _ ⟨hS_103, lv_sub hl [2, 3, 4, 5, 6, 7] rfl, h_117, hM9, ⟨_, h_113⟩, ⟨_, h_115⟩, by omega, by omega⟩
      · -- not taken at 1729
        exfalso; omega
    · -- not taken at 1722
      exfalso; omega

set_option maxHeartbeats 8000000 in
set_option maxRecDepth 100000 in
theorem lc_lineAt {p : Program} {e : Env} {s : State} {m : MethodId} {below : List Frame} {meth : Method} {c : Code} {l : Launch} {D : kG} {b L c0 c1 x1 mm out outD : Nat} {xs : Nat → Int32} {Q : State → Prop} (C0 : lwC D p l s m meth c b L c0 c1 out outD xs) {j : Nat} (hj : 3 * j + 3 ≤ L) {S : Ls} {gap : Int} {sn : Option Sg} {hs : List Sg} {t : List Int} {H : Heap} {locs : List Loc} {ls : Array Slot} (I0 : lwI D s b c0 c1 x1 mm out outD j j (S, gap) sn hs t H locs ls) {cells slots : Nat} (hcl : cells + 50000 ≤ 1200144) (hsl9 : slots + 228000 ≤ 5496058) (kk : ∀ (σ : Sg) (sn : Option Sg) (hs : List Sg) (t : List Int) (H : Heap) (locs : List Loc) (ls : Array Slot), lwI D s b c0 c1 x1 mm out outD j (j + 1) σ sn hs t H locs ls → W p l e lwR s m #[Value.ref b] below meth c H locs (cells + 50000) (slots + 228000) Q (F0 m 2493 ls [])) : W p l e lwR s m #[Value.ref b] below meth c H locs cells slots Q (F0 m 945 ls []) := by
  obtain ⟨hx, hb, hml, hown, hts, hlk, hK, hl9, hX, hbl, hbs, hL72, hc0, hco, hod, hdc⟩ := C0
  obtain ⟨hS, hl, hW, hM, ⟨go, hA_out⟩, ⟨gd, hA_outD⟩, hc1, htl⟩ := I0
  have hB : ∀ q, (kNW s.heap) q → kBase D ≤ q := fun q h => Nat.le_trans hK.size h
  have hbA : ¬ (kNW s.heap) b := fun h => by have h9 : s.heap.size ≤ b := h; omega
  have hd9 := hK.dis
  have hxE : ¬ kBase D ≤ D.2.2.2 2 := hK.tE.out
  obtain ⟨z1, hz1⟩ : ∃ z, z = (xs (3 * j + 1)).toInt := ⟨_, rfl⟩
  obtain ⟨z2, hz2⟩ : ∃ z, z = (xs (3 * j + 2)).toInt := ⟨_, rfl⟩
  have hr1 : -2147483648 ≤ z1 ∧ z1 ≤ 2147483647 := by rw [hz1]; exact i32r _
  have hr2 : -2147483648 ≤ z2 ∧ z2 ≤ 2147483647 := by rw [hz2]; exact i32r _
  obtain ⟨⟨st, la, ea, F⟩, sl, hl2, hi, es, bu, vb, hO_x1, hDq, hTx, hX5, hev, hAl, hDj, hPw, hsl, hsn, hhs⟩ := id hW
  subst hsn
  subst hhs
  obtain ⟨ra, sa, ka, ta, nh, ik, th, sp9, iw, le9, fi9, se9, g, gs, gk, gt, hO_mm, hA_ra, hA_sa, hA_ka, hA_ta, hMr, hMh, hMk, hMt, ht60, hMd, hMb, hMi⟩ := id hM
  have hMr : MRow g S gap := hMr
  have h0 := hAl _ List.mem_cons_self
  have hP_kState_st : kState D H st la ea gap S F := h0.1
  have hok : LsOK S gap := h0.2.1
  have hG : StG S := h0.2.2.1
  have hL8 : S.length ≤ 8 := hok.1
  have hgp := hok.2.1
  have hO_x1 : kO D H x1 0 [.ref st, va_rf ((sl.map (fun a => a.1.1)).head?), .ref hi, .ref bu] := hO_x1
  have hOw : ∀ q, kOwn D st la ea F S.length q → q ∉ [x1, hi, es, bu, vb] ∧ (q < c0 ∨ c1 ≤ q) := h0.2.2.2
  have hev : Hd (es ≠ vb) := hev
  have io_x1 : ∀ x, c0 ≤ x → x < c1 → x ≠ x1 := fun x => out_of (hX5 x1 (by simp)).2
  have io_hi : ∀ x, c0 ≤ x → x < c1 → x ≠ hi := fun x => out_of (hX5 hi (by simp)).2
  have io_es : ∀ x, c0 ≤ x → x < c1 → x ≠ es := fun x => out_of (hX5 es (by simp)).2
  have io_bu : ∀ x, c0 ≤ x → x < c1 → x ≠ bu := fun x => out_of (hX5 bu (by simp)).2
  have io_vb : ∀ x, c0 ≤ x → x < c1 → x ≠ vb := fun x => out_of (hX5 vb (by simp)).2
  have b_x1 := (hX5 x1 (by simp)).1
  have b_hi := (hX5 hi (by simp)).1
  have b_es := (hX5 es (by simp)).1
  have b_bu := (hX5 bu (by simp)).1
  have b_vb := (hX5 vb (by simp)).1
  obtain ⟨⟨⟨n1, n2, n3, n4⟩, n5, n6, n7⟩, n8, n9, n10⟩ := hMd
  have n_mm_ra : Hd (mm ≠ ra) := n1
  have n_mm_sa : Hd (mm ≠ sa) := n2
  have n_mm_ka : Hd (mm ≠ ka) := n3
  have n_mm_ta : Hd (mm ≠ ta) := n4
  have n_ra_sa : Hd (ra ≠ sa) := n5
  have n_ra_ka : Hd (ra ≠ ka) := n6
  have n_ra_ta : Hd (ra ≠ ta) := n7
  have n_sa_ka : Hd (sa ≠ ka) := n8
  have n_sa_ta : Hd (sa ≠ ta) := n9
  have n_ka_ta : Hd (ka ≠ ta) := n10
  have hMd : Hd (((mm ≠ ra ∧ mm ≠ sa ∧ mm ≠ ka ∧ mm ≠ ta) ∧ ra ≠ sa ∧ ra ≠ ka ∧ ra ≠ ta) ∧ sa ≠ ka ∧ sa ≠ ta ∧ ka ≠ ta) := ⟨⟨⟨n1, n2, n3, n4⟩, n5, n6, n7⟩, n8, n9, n10⟩
  clear n1 n2 n3 n4 n5 n6 n7 n8 n9 n10
  obtain ⟨b_mm, b_ra, b_sa, b_ka, b_ta⟩ := id hMb
  obtain ⟨i_mm, i_ra, i_sa, i_ka, i_ta⟩ := id hMi
  have b_out : kBase D ≤ out := by omega
  have hcc : c0 ≤ c1 := by omega
  have w_mm : mm < c1 := by omega
  have n_mm_out : Hd (mm ≠ out) := Nat.ne_of_lt i_mm.2
  have n_mm_outD : Hd (mm ≠ outD) := Nat.ne_of_lt (Nat.lt_trans i_mm.2 hod)
  have w_ra : ra < c1 := by omega
  have n_ra_out : Hd (ra ≠ out) := Nat.ne_of_lt i_ra.2
  have n_ra_outD : Hd (ra ≠ outD) := Nat.ne_of_lt (Nat.lt_trans i_ra.2 hod)
  have w_sa : sa < c1 := by omega
  have n_sa_out : Hd (sa ≠ out) := Nat.ne_of_lt i_sa.2
  have n_sa_outD : Hd (sa ≠ outD) := Nat.ne_of_lt (Nat.lt_trans i_sa.2 hod)
  have w_ka : ka < c1 := by omega
  have n_ka_out : Hd (ka ≠ out) := Nat.ne_of_lt i_ka.2
  have n_ka_outD : Hd (ka ≠ outD) := Nat.ne_of_lt (Nat.lt_trans i_ka.2 hod)
  have w_ta : ta < c1 := by omega
  have n_ta_out : Hd (ta ≠ out) := Nat.ne_of_lt i_ta.2
  have n_ta_outD : Hd (ta ≠ outD) := Nat.ne_of_lt (Nat.lt_trans i_ta.2 hod)
  have ge_mm : ∀ q, q = mm → kNW s.heap q := fun q h => by rw [h]; show s.heap.size ≤ mm; omega
  have ge_ra : ∀ q, q = ra → kNW s.heap q := fun q h => by rw [h]; show s.heap.size ≤ ra; omega
  have ge_sa : ∀ q, q = sa → kNW s.heap q := fun q h => by rw [h]; show s.heap.size ≤ sa; omega
  have ge_ka : ∀ q, q = ka → kNW s.heap q := fun q h => by rw [h]; show s.heap.size ≤ ka; omega
  have ge_ta : ∀ q, q = ta → kNW s.heap q := fun q h => by rw [h]; show s.heap.size ≤ ta; omega
  have ge_out : ∀ q, q = out → kNW s.heap q := fun q h => by rw [h]; show s.heap.size ≤ out; omega
  have n_out_outD : Hd (out ≠ outD) := Nat.ne_of_lt hod
  have w_out : out < c1 := by omega
  have w_outD : outD < c1 := hdc
  have i_outD : c0 ≤ outD := by omega
  have htyo : kTy D H out := Or.inr ⟨2, _, by decide, hA_out⟩
  have htyd : kTy D H outD := Or.inr ⟨3, _, by decide, hA_outD⟩
  have to_out : ∀ x, x = out → H.size ≤ x ∨ (kTy D H x ∧ c0 ≤ x ∧ x < c1) := fun x h => by rw [h]; exact Or.inr ⟨htyo, hco, w_out⟩
  have to_outD : ∀ x, x = outD → H.size ≤ x ∨ (kTy D H x ∧ c0 ≤ x ∧ x < c1) := fun x h => by rw [h]; exact Or.inr ⟨htyd, i_outD, w_outD⟩
  obtain ⟨⟨hO_st, mc9, hO_la⟩, hLs9, hLn9, hF9, hDs9, hb1, hb2, hb3⟩ := id hP_kState_st
  by_cases hA : 0 ≤ z1 ∧ z1 ≤ 383
  · -- hA
    have hr9 := st_owner_rng S z1
    have hrv : -2147483648 ≤ st_owner S z1 ∧ st_owner S z1 ≤ 2147483647 := ⟨by omega, by omega⟩
    refine lv_aload_n hx hb dL_law_945 rfl (lv_at hl 1 rfl) ?_
    refine lv_aload_n hx hb dL_law_946 rfl (lv_at hl 0 rfl) ?_
    refine lv_iload hx hb dL_law_947 (lv_at hl 5 rfl) ?_
    refine kx_iconst hx hb dL_law_949 ?_
    refine kx_iadd hx hb dL_law_950 ?_
    refine kx_sld (i := (((3 * j : Nat) : Int) + 1)) hx hb hX hbl hbA hS (3 * j + 1) (by omega) (by omega) (by omega) dL_law_951 ?_
    refine kx_eqi (z1) (hz1.symm) ?_
    refine lv_aload_n hx hb dL_law_952 rfl (lv_at hl 3 rfl) ?_
    refine kx_ci (vx_runSW (As := [.ref x1, .int (kI (z1)), .ref out]) (rest := []) ⟨hx, hb, hml, hown, hts⟩ (wr_lineAt l hl9 D H x1 ((sl.map (fun a => a.1.1)).head?) hi bu st la mc9 ea F S gap z1 out go hO_x1 hO_st hO_la hLs9 hLn9 hA_out (by first | assumption | omega) (by first | assumption | omega) (by first | assumption | omega) (by first | assumption | omega)) (vx_cwSW 3 hts (lw_SW q1952 q1953 q78 q1954) rfl rfl rfl (by decide +kernel) ⟨Nat.le_of_ble_eq_true rfl, Nat.le_of_ble_eq_true rfl⟩) (kx_ps hK hS hB) rfl rfl hl.1 rfl (lv_room (Nat.le_of_ble_eq_true rfl)) dL_law_953 ⟨by first | exact Nat.le_of_ble_eq_true rfl | omega | (dsimp only [lwR]; omega) | (show _ ≤ _; omega), by first | exact Nat.le_of_ble_eq_true rfl | omega | (dsimp only [lwR]; omega) | (show _ ≤ _; omega)⟩) hS (fun q _ h => (ge_out q) h) (fun q h => (ge_out q) h) (fun z_6 H_4 locs_1 hz_3 hF_5 hS_2 => ?_)
    have hzf_7 := hF_5.1
    obtain ⟨hv_8, ho_9⟩ := hz_3
    subst z_6
    refine lv_istore (lv' := [(6, .int (kI (0))), (0, .ref b), (1, .ref x1), (2, .ref mm), (3, .ref out), (4, .ref outD), (5, .int (kI ((3 * j : Nat) : Int)))]) hx hb dL_law_956 hl (by decide) rfl (fun ls hl => ?_)
    refine lv_aload_n hx hb dL_law_958 rfl (lv_at hl 3 rfl) ?_
    refine lv_aload_n hx hb dL_law_959 rfl (lv_at hl 1 rfl) ?_
    refine lv_iload hx hb dL_law_960 (lv_at hl 6 rfl) ?_
    refine kx_iconst hx hb dL_law_962 ?_
    refine kx_iadd hx hb dL_law_963 ?_
    refine kx_sld (i := (((3 * j : Nat) : Int) + 1)) hx hb hX hbl hbA hS_2 (3 * j + 1) (by omega) (by omega) (by omega) dL_law_964 ?_
    refine kx_eqi (z1) (hz1.symm) ?_
    have h_10 := hO_mm.fr hF_5 (n_mm_out)
    have h_11 := hA_ra.fr hF_5 (n_ra_out)
    have h_12 := hA_sa.fr hF_5 (n_sa_out)
    have h_13 := hA_ka.fr hF_5 (n_ka_out)
    have h_14 := hA_ta.fr hF_5 (n_ta_out)
    have ty_mm : ∀ x, x = mm → H_4.size ≤ x ∨ (kTy D H_4 x ∧ c0 ≤ x ∧ x < c1) := fun x h => by rw [h]; exact Or.inr ⟨Or.inl ⟨2, _, by decide, by decide, by decide, h_10⟩, i_mm.1, w_mm⟩
    refine kx_ci (va_runV (As := [.int (kI (z1))]) (rest := []) ⟨hx, hb, hml, hown, hts⟩ (m_X3_lineAt l D H_4 mm ra sa ka ta nh ik t.length th sp9 iw le9 fi9 se9 g S gap z1 h_10 h_11 (by first | assumption | omega) (by first | assumption | omega) n_mm_ra b_mm (by first | assumption | omega)) (cwV 1 hts (lw_V q2471 q2472 q2473 q89 q2474) rfl rfl rfl (by decide +kernel) ⟨Nat.le_of_ble_eq_true rfl, Nat.le_of_ble_eq_true rfl⟩) (kx_pv hK hS_2 hB (kx_rc hK h_10 (C := RX3) (T := TX3) (N := 13) rfl)) rfl rfl hl.1 rfl (lv_room (Nat.le_of_ble_eq_true rfl)) dL_law_965 ⟨by first | exact Nat.le_of_ble_eq_true rfl | omega | (dsimp only [lwR]; omega) | (show _ ≤ _; omega), by first | exact Nat.le_of_ble_eq_true rfl | omega | (dsimp only [lwR]; omega) | (show _ ≤ _; omega)⟩) hS_2 (fun q _ h => (ge_mm q) h) (fun q h => (ge_mm q) h) (fun z_20 H_18 locs_15 hz_17 hF_19 hS_16 => ?_)
    have hzf_21 := hF_19.1
    obtain ⟨hv_22, ho_23⟩ := hz_17
    subst z_20
    refine lv_istore (lv' := [(7, .int (kI (st_owner S z1))), (6, .int (kI (0))), (0, .ref b), (1, .ref x1), (2, .ref mm), (3, .ref out), (4, .ref outD), (5, .int (kI ((3 * j : Nat) : Int)))]) hx hb dL_law_968 hl (by decide) rfl (fun ls hl => ?_)
    refine lv_aload_n hx hb dL_law_970 rfl (lv_at hl 4 rfl) ?_
    refine kx_ci0 (va_runV (As := []) (rest := []) ⟨hx, hb, hml, hown, hts⟩ (m_X3_thrown l D H_18 mm ra sa ka ta nh ik t.length 0 sp9 iw le9 fi9 se9 ho_23 ) (cwV 0 hts (lw_V q2278 q2279 q2280 q89 q2281) rfl rfl rfl (by decide +kernel) ⟨Nat.le_of_ble_eq_true rfl, Nat.le_of_ble_eq_true rfl⟩) (kx_pv hK hS_16 hB (kx_rc hK ho_23 (C := RX3) (T := TX3) (N := 13) rfl)) rfl rfl hl.1 rfl (lv_room (Nat.le_of_ble_eq_true rfl)) dL_law_971 ⟨by first | exact Nat.le_of_ble_eq_true rfl | omega | (dsimp only [lwR]; omega) | (show _ ≤ _; omega), by first | exact Nat.le_of_ble_eq_true rfl | omega | (dsimp only [lwR]; omega) | (show _ ≤ _; omega)⟩) hS_16 (fun z_27 locs_24 hz_26 hS_25 => ?_)
    subst z_27
    refine lv_iload hx hb dL_law_974 (lv_at hl 1 rfl) ?_
    refine kx_icmp_eq (x := 0) (y := 0) (tgt := 981) hx hb dL_law_976 (by decide) (by omega) (by omega) (by omega) (by omega) (fun c_976_28 => ?_) (fun c_976_28 => ?_)
    · -- taken at 976
      refine lv_iload hx hb dL_law_981 (lv_at hl 1 rfl) ?_
      refine kx_if_ne (x := 0) (tgt := 998) hx hb dL_law_983 (by decide) (by omega) (by omega) (fun c_983_29 => ?_) (fun c_983_29 => ?_)
      · -- taken at 983
        exfalso; omega
      · -- not taken at 983
        refine lv_aload_n hx hb dL_law_986 rfl (lv_at hl 5 rfl) ?_
        refine kx_iconst hx hb dL_law_987 ?_
        have h_30 := ho_9.fr hF_19 (n_mm_out.sm)
        refine kx_lald (i := 0) hx hb hK h_30 0 rfl (by decide) (by decide) dL_law_988 ?_
        refine lv_iload hx hb dL_law_989 (lv_at hl 0 rfl) ?_
        refine kx_i2l hx hb (z := st_owner S z1) (by omega) (by omega) dL_law_991 ?_
        refine kx_lcmpE hx hb (x := ((kup go 0 (kL (st_owner S z1)))) 0) (y := kL (st_owner S z1)) (kup_self _ _ _) dL_law_992 ?_
        refine kx_if_eq (x := 0) (tgt := 998) hx hb dL_law_993 (by decide) (by omega) (by omega) (fun c_993_31 => ?_) (fun c_993_31 => ?_)
        · -- taken at 993
          refine lv_goto (tgt := 2493) hx hb dL_law_998 (by decide) ?_
          have h_32 := h_11.fr hF_19 (n_mm_ra.sm)
          have h_33 := h_12.fr hF_19 (n_mm_sa.sm)
          have h_34 := h_13.fr hF_19 (n_mm_ka.sm)
          have h_35 := h_14.fr hF_19 (n_mm_ta.sm)
          have h_36 := hA_outD.fr hF_5 (n_out_outD.sm)
          have h_37 := h_36.fr hF_19 (n_mm_outD.sm)
          have h_38 := hW.fr hd9 hF_5 (fun x => (to_out x))
          have h_39 := h_38.fr hd9 hF_19 (fun x => (ty_mm x))
          refine W.widen (k := cells + 50000) (n := slots + 228000) (by omega) (by omega) ?_
          have hM9 : kM D H_18 c0 out mm (S, gap) ((sl.map Prod.snd).head?) (hl2.map Prod.snd) t := ⟨ra, sa, ka, ta, _, _, _, _, _, _, _, _, _, _, _, _, ho_23, h_32, h_33, h_34, h_35, hMr, hMh, hMk, hMt, ht60, hMd, hMb, hMi⟩
          exact kk (S, gap) ((sl.map Prod.snd).head?) (hl2.map Prod.snd) t _ _ _ ⟨hS_25, lv_sub hl [2, 3, 4, 5, 6, 7] rfl, h_39, hM9, ⟨_, h_30⟩, ⟨_, h_37⟩, by omega, by omega⟩
        · -- not taken at 993
          exfalso; omega
    · -- not taken at 976
      exfalso; omega
  · -- hA
    refine lv_aload_n hx hb dL_law_945 rfl (lv_at hl 1 rfl) ?_
    refine lv_aload_n hx hb dL_law_946 rfl (lv_at hl 0 rfl) ?_
    refine lv_iload hx hb dL_law_947 (lv_at hl 5 rfl) ?_
    refine kx_iconst hx hb dL_law_949 ?_
    refine kx_iadd hx hb dL_law_950 ?_
    refine kx_sld (i := (((3 * j : Nat) : Int) + 1)) hx hb hX hbl hbA hS (3 * j + 1) (by omega) (by omega) (by omega) dL_law_951 ?_
    refine kx_eqi (z1) (hz1.symm) ?_
    refine lv_aload_n hx hb dL_law_952 rfl (lv_at hl 3 rfl) ?_
    refine kx_ci (vx_runSW (As := [.ref x1, .int (kI (z1)), .ref out]) (rest := []) ⟨hx, hb, hml, hown, hts⟩ (wx_lineAt l hl9 D H x1 ((sl.map (fun a => a.1.1)).head?) hi bu st la mc9 ea F S gap z1 out hO_x1 hO_st hO_la hLs9 hLn9 (by first | assumption | omega) (by first | assumption | omega) (by first | assumption | omega)) (vx_cwSW 3 hts (lw_SW q1952 q1953 q78 q1954) rfl rfl rfl (by decide +kernel) ⟨Nat.le_of_ble_eq_true rfl, Nat.le_of_ble_eq_true rfl⟩) (kx_ps hK hS hB) rfl rfl hl.1 rfl (lv_room (Nat.le_of_ble_eq_true rfl)) dL_law_953 ⟨by first | exact Nat.le_of_ble_eq_true rfl | omega | (dsimp only [lwR]; omega) | (show _ ≤ _; omega), by first | exact Nat.le_of_ble_eq_true rfl | omega | (dsimp only [lwR]; omega) | (show _ ≤ _; omega)⟩) hS (fun q _ h => by have h9 := hS.1; (try dsimp only at h); (try dsimp only); (try simp only [kNW] at h); (try simp only [kNW]); omega) (fun q h => by have h9 := hS.1; (try dsimp only at h); (try dsimp only); (try simp only [kNW] at h); (try simp only [kNW]); omega) (fun z_45 H_43 locs_40 hz_42 hF_44 hS_41 => ?_)
    have hzf_46 := hF_44.1
    have hF_44 := hF_44.nw
    obtain ⟨hv_47, hnw_48⟩ := hz_42
    subst z_45
    refine lv_istore (lv' := [(6, .int (kI (1))), (0, .ref b), (1, .ref x1), (2, .ref mm), (3, .ref out), (4, .ref outD), (5, .int (kI ((3 * j : Nat) : Int)))]) hx hb dL_law_956 hl (by decide) rfl (fun ls hl => ?_)
    refine lv_aload_n hx hb dL_law_958 rfl (lv_at hl 3 rfl) ?_
    refine lv_aload_n hx hb dL_law_959 rfl (lv_at hl 1 rfl) ?_
    refine lv_iload hx hb dL_law_960 (lv_at hl 6 rfl) ?_
    refine kx_iconst hx hb dL_law_962 ?_
    refine kx_iadd hx hb dL_law_963 ?_
    refine kx_sld (i := (((3 * j : Nat) : Int) + 1)) hx hb hX hbl hbA hS_41 (3 * j + 1) (by omega) (by omega) (by omega) dL_law_964 ?_
    refine kx_eqi (z1) (hz1.symm) ?_
    have h_49 := hO_mm.ex hF_44
    have h_50 := hA_ra.ex hF_44
    have h_51 := hA_sa.ex hF_44
    have h_52 := hA_ka.ex hF_44
    have h_53 := hA_ta.ex hF_44
    have ty_mm : ∀ x, x = mm → H_43.size ≤ x ∨ (kTy D H_43 x ∧ c0 ≤ x ∧ x < c1) := fun x h => by rw [h]; exact Or.inr ⟨Or.inl ⟨2, _, by decide, by decide, by decide, h_49⟩, i_mm.1, w_mm⟩
    refine kx_ci (va_runV (As := [.int (kI (z1))]) (rest := []) ⟨hx, hb, hml, hown, hts⟩ (m_X3_lineAt_no l D H_43 mm ra sa ka ta nh ik t.length th sp9 iw le9 fi9 se9 g S gap z1 h_49 h_50 (by first | assumption | omega) (by first | assumption | omega) n_mm_ra b_mm (by first | assumption | omega) (by first | assumption | omega)) (cwV 1 hts (lw_V q2471 q2472 q2473 q89 q2474) rfl rfl rfl (by decide +kernel) ⟨Nat.le_of_ble_eq_true rfl, Nat.le_of_ble_eq_true rfl⟩) (kx_pv hK hS_41 hB (kx_rc hK h_49 (C := RX3) (T := TX3) (N := 13) rfl)) rfl rfl hl.1 rfl (lv_room (Nat.le_of_ble_eq_true rfl)) dL_law_965 ⟨by first | exact Nat.le_of_ble_eq_true rfl | omega | (dsimp only [lwR]; omega) | (show _ ≤ _; omega), by first | exact Nat.le_of_ble_eq_true rfl | omega | (dsimp only [lwR]; omega) | (show _ ≤ _; omega)⟩) hS_41 (fun q _ h => (ge_mm q) h) (fun q h => (ge_mm q) h) (fun z_59 H_57 locs_54 hz_56 hF_58 hS_55 => ?_)
    have hzf_60 := hF_58.1
    obtain ⟨hv_61, ho_62⟩ := hz_56
    subst z_59
    refine lv_istore (lv' := [(7, .int (kI (0))), (6, .int (kI (1))), (0, .ref b), (1, .ref x1), (2, .ref mm), (3, .ref out), (4, .ref outD), (5, .int (kI ((3 * j : Nat) : Int)))]) hx hb dL_law_968 hl (by decide) rfl (fun ls hl => ?_)
    refine lv_aload_n hx hb dL_law_970 rfl (lv_at hl 4 rfl) ?_
    refine kx_ci0 (va_runV (As := []) (rest := []) ⟨hx, hb, hml, hown, hts⟩ (m_X3_thrown l D H_57 mm ra sa ka ta nh ik t.length 1 sp9 iw le9 fi9 se9 ho_62 ) (cwV 0 hts (lw_V q2278 q2279 q2280 q89 q2281) rfl rfl rfl (by decide +kernel) ⟨Nat.le_of_ble_eq_true rfl, Nat.le_of_ble_eq_true rfl⟩) (kx_pv hK hS_55 hB (kx_rc hK ho_62 (C := RX3) (T := TX3) (N := 13) rfl)) rfl rfl hl.1 rfl (lv_room (Nat.le_of_ble_eq_true rfl)) dL_law_971 ⟨by first | exact Nat.le_of_ble_eq_true rfl | omega | (dsimp only [lwR]; omega) | (show _ ≤ _; omega), by first | exact Nat.le_of_ble_eq_true rfl | omega | (dsimp only [lwR]; omega) | (show _ ≤ _; omega)⟩) hS_55 (fun z_66 locs_63 hz_65 hS_64 => ?_)
    subst z_66
    refine lv_iload hx hb dL_law_974 (lv_at hl 1 rfl) ?_
    refine kx_icmp_eq (x := 1) (y := 1) (tgt := 981) hx hb dL_law_976 (by decide) (by omega) (by omega) (by omega) (by omega) (fun c_976_67 => ?_) (fun c_976_67 => ?_)
    · -- taken at 976
      refine lv_iload hx hb dL_law_981 (lv_at hl 1 rfl) ?_
      refine kx_if_ne (x := 1) (tgt := 998) hx hb dL_law_983 (by decide) (by omega) (by omega) (fun c_983_68 => ?_) (fun c_983_68 => ?_)
      · -- taken at 983
        refine lv_goto (tgt := 2493) hx hb dL_law_998 (by decide) ?_
        have h_69 := h_50.fr hF_58 (n_mm_ra.sm)
        have h_70 := h_51.fr hF_58 (n_mm_sa.sm)
        have h_71 := h_52.fr hF_58 (n_mm_ka.sm)
        have h_72 := h_53.fr hF_58 (n_mm_ta.sm)
        have h_73 := hA_out.ex hF_44
        have h_74 := h_73.fr hF_58 (n_mm_out.sm)
        have h_75 := hA_outD.ex hF_44
        have h_76 := h_75.fr hF_58 (n_mm_outD.sm)
        have h_77 := hW.ex hd9 hF_44
        have h_78 := h_77.fr hd9 hF_58 (fun x => (ty_mm x))
        refine W.widen (k := cells + 50000) (n := slots + 228000) (by omega) (by omega) ?_
        have hM9 : kM D H_57 c0 out mm (S, gap) ((sl.map Prod.snd).head?) (hl2.map Prod.snd) t := ⟨ra, sa, ka, ta, _, _, _, _, _, _, _, _, _, _, _, _, ho_62, h_69, h_70, h_71, h_72, hMr, hMh, hMk, hMt, ht60, hMd, hMb, hMi⟩
        exact kk (S, gap) ((sl.map Prod.snd).head?) (hl2.map Prod.snd) t _ _ _ ⟨hS_64, lv_sub hl [2, 3, 4, 5, 6, 7] rfl, h_78, hM9, ⟨_, h_74⟩, ⟨_, h_76⟩, by omega, by omega⟩
      · -- not taken at 983
        exfalso; omega
    · -- not taken at 976
      exfalso; omega

set_option maxHeartbeats 8000000 in
set_option maxRecDepth 100000 in
theorem lc_whyNotStepped {p : Program} {e : Env} {s : State} {m : MethodId} {below : List Frame} {meth : Method} {c : Code} {l : Launch} {D : kG} {b L c0 c1 x1 mm out outD : Nat} {xs : Nat → Int32} {Q : State → Prop} (C0 : lwC D p l s m meth c b L c0 c1 out outD xs) {j : Nat} (hj : 3 * j + 3 ≤ L) {S : Ls} {gap : Int} {sn : Option Sg} {hs : List Sg} {t : List Int} {H : Heap} {locs : List Loc} {ls : Array Slot} (I0 : lwI D s b c0 c1 x1 mm out outD j j (S, gap) sn hs t H locs ls) {cells slots : Nat} (hcl : cells + 50000 ≤ 1200144) (hsl9 : slots + 228000 ≤ 5496058) (kk : ∀ (σ : Sg) (sn : Option Sg) (hs : List Sg) (t : List Int) (H : Heap) (locs : List Loc) (ls : Array Slot), lwI D s b c0 c1 x1 mm out outD j (j + 1) σ sn hs t H locs ls → W p l e lwR s m #[Value.ref b] below meth c H locs (cells + 50000) (slots + 228000) Q (F0 m 2493 ls [])) : W p l e lwR s m #[Value.ref b] below meth c H locs cells slots Q (F0 m 1064 ls []) := by
  obtain ⟨hx, hb, hml, hown, hts, hlk, hK, hl9, hX, hbl, hbs, hL72, hc0, hco, hod, hdc⟩ := C0
  obtain ⟨hS, hl, hW, hM, ⟨go, hA_out⟩, ⟨gd, hA_outD⟩, hc1, htl⟩ := I0
  have hB : ∀ q, (kNW s.heap) q → kBase D ≤ q := fun q h => Nat.le_trans hK.size h
  have hbA : ¬ (kNW s.heap) b := fun h => by have h9 : s.heap.size ≤ b := h; omega
  have hd9 := hK.dis
  have hxE : ¬ kBase D ≤ D.2.2.2 2 := hK.tE.out
  obtain ⟨z1, hz1⟩ : ∃ z, z = (xs (3 * j + 1)).toInt := ⟨_, rfl⟩
  obtain ⟨z2, hz2⟩ : ∃ z, z = (xs (3 * j + 2)).toInt := ⟨_, rfl⟩
  have hr1 : -2147483648 ≤ z1 ∧ z1 ≤ 2147483647 := by rw [hz1]; exact i32r _
  have hr2 : -2147483648 ≤ z2 ∧ z2 ≤ 2147483647 := by rw [hz2]; exact i32r _
  obtain ⟨⟨st, la, ea, F⟩, sl, hl2, hi, es, bu, vb, hO_x1, hDq, hTx, hX5, hev, hAl, hDj, hPw, hsl, hsn, hhs⟩ := id hW
  subst hsn
  subst hhs
  obtain ⟨ra, sa, ka, ta, nh, ik, th, sp9, iw, le9, fi9, se9, g, gs, gk, gt, hO_mm, hA_ra, hA_sa, hA_ka, hA_ta, hMr, hMh, hMk, hMt, ht60, hMd, hMb, hMi⟩ := id hM
  have hMr : MRow g S gap := hMr
  have h0 := hAl _ List.mem_cons_self
  have hP_kState_st : kState D H st la ea gap S F := h0.1
  have hok : LsOK S gap := h0.2.1
  have hG : StG S := h0.2.2.1
  have hL8 : S.length ≤ 8 := hok.1
  have hgp := hok.2.1
  have hO_x1 : kO D H x1 0 [.ref st, va_rf ((sl.map (fun a => a.1.1)).head?), .ref hi, .ref bu] := hO_x1
  have hOw : ∀ q, kOwn D st la ea F S.length q → q ∉ [x1, hi, es, bu, vb] ∧ (q < c0 ∨ c1 ≤ q) := h0.2.2.2
  have hev : Hd (es ≠ vb) := hev
  have io_x1 : ∀ x, c0 ≤ x → x < c1 → x ≠ x1 := fun x => out_of (hX5 x1 (by simp)).2
  have io_hi : ∀ x, c0 ≤ x → x < c1 → x ≠ hi := fun x => out_of (hX5 hi (by simp)).2
  have io_es : ∀ x, c0 ≤ x → x < c1 → x ≠ es := fun x => out_of (hX5 es (by simp)).2
  have io_bu : ∀ x, c0 ≤ x → x < c1 → x ≠ bu := fun x => out_of (hX5 bu (by simp)).2
  have io_vb : ∀ x, c0 ≤ x → x < c1 → x ≠ vb := fun x => out_of (hX5 vb (by simp)).2
  have b_x1 := (hX5 x1 (by simp)).1
  have b_hi := (hX5 hi (by simp)).1
  have b_es := (hX5 es (by simp)).1
  have b_bu := (hX5 bu (by simp)).1
  have b_vb := (hX5 vb (by simp)).1
  obtain ⟨⟨⟨n1, n2, n3, n4⟩, n5, n6, n7⟩, n8, n9, n10⟩ := hMd
  have n_mm_ra : Hd (mm ≠ ra) := n1
  have n_mm_sa : Hd (mm ≠ sa) := n2
  have n_mm_ka : Hd (mm ≠ ka) := n3
  have n_mm_ta : Hd (mm ≠ ta) := n4
  have n_ra_sa : Hd (ra ≠ sa) := n5
  have n_ra_ka : Hd (ra ≠ ka) := n6
  have n_ra_ta : Hd (ra ≠ ta) := n7
  have n_sa_ka : Hd (sa ≠ ka) := n8
  have n_sa_ta : Hd (sa ≠ ta) := n9
  have n_ka_ta : Hd (ka ≠ ta) := n10
  have hMd : Hd (((mm ≠ ra ∧ mm ≠ sa ∧ mm ≠ ka ∧ mm ≠ ta) ∧ ra ≠ sa ∧ ra ≠ ka ∧ ra ≠ ta) ∧ sa ≠ ka ∧ sa ≠ ta ∧ ka ≠ ta) := ⟨⟨⟨n1, n2, n3, n4⟩, n5, n6, n7⟩, n8, n9, n10⟩
  clear n1 n2 n3 n4 n5 n6 n7 n8 n9 n10
  obtain ⟨b_mm, b_ra, b_sa, b_ka, b_ta⟩ := id hMb
  obtain ⟨i_mm, i_ra, i_sa, i_ka, i_ta⟩ := id hMi
  have b_out : kBase D ≤ out := by omega
  have hcc : c0 ≤ c1 := by omega
  have w_mm : mm < c1 := by omega
  have n_mm_out : Hd (mm ≠ out) := Nat.ne_of_lt i_mm.2
  have n_mm_outD : Hd (mm ≠ outD) := Nat.ne_of_lt (Nat.lt_trans i_mm.2 hod)
  have w_ra : ra < c1 := by omega
  have n_ra_out : Hd (ra ≠ out) := Nat.ne_of_lt i_ra.2
  have n_ra_outD : Hd (ra ≠ outD) := Nat.ne_of_lt (Nat.lt_trans i_ra.2 hod)
  have w_sa : sa < c1 := by omega
  have n_sa_out : Hd (sa ≠ out) := Nat.ne_of_lt i_sa.2
  have n_sa_outD : Hd (sa ≠ outD) := Nat.ne_of_lt (Nat.lt_trans i_sa.2 hod)
  have w_ka : ka < c1 := by omega
  have n_ka_out : Hd (ka ≠ out) := Nat.ne_of_lt i_ka.2
  have n_ka_outD : Hd (ka ≠ outD) := Nat.ne_of_lt (Nat.lt_trans i_ka.2 hod)
  have w_ta : ta < c1 := by omega
  have n_ta_out : Hd (ta ≠ out) := Nat.ne_of_lt i_ta.2
  have n_ta_outD : Hd (ta ≠ outD) := Nat.ne_of_lt (Nat.lt_trans i_ta.2 hod)
  have ge_mm : ∀ q, q = mm → kNW s.heap q := fun q h => by rw [h]; show s.heap.size ≤ mm; omega
  have ge_ra : ∀ q, q = ra → kNW s.heap q := fun q h => by rw [h]; show s.heap.size ≤ ra; omega
  have ge_sa : ∀ q, q = sa → kNW s.heap q := fun q h => by rw [h]; show s.heap.size ≤ sa; omega
  have ge_ka : ∀ q, q = ka → kNW s.heap q := fun q h => by rw [h]; show s.heap.size ≤ ka; omega
  have ge_ta : ∀ q, q = ta → kNW s.heap q := fun q h => by rw [h]; show s.heap.size ≤ ta; omega
  have ge_out : ∀ q, q = out → kNW s.heap q := fun q h => by rw [h]; show s.heap.size ≤ out; omega
  have n_out_outD : Hd (out ≠ outD) := Nat.ne_of_lt hod
  have w_out : out < c1 := by omega
  have w_outD : outD < c1 := hdc
  have i_outD : c0 ≤ outD := by omega
  have htyo : kTy D H out := Or.inr ⟨2, _, by decide, hA_out⟩
  have htyd : kTy D H outD := Or.inr ⟨3, _, by decide, hA_outD⟩
  have to_out : ∀ x, x = out → H.size ≤ x ∨ (kTy D H x ∧ c0 ≤ x ∧ x < c1) := fun x h => by rw [h]; exact Or.inr ⟨htyo, hco, w_out⟩
  have to_outD : ∀ x, x = outD → H.size ≤ x ∨ (kTy D H x ∧ c0 ≤ x ∧ x < c1) := fun x h => by rw [h]; exact Or.inr ⟨htyd, i_outD, w_outD⟩
  obtain ⟨⟨hO_st, mc9, hO_la⟩, hLs9, hLn9, hF9, hDs9, hb1, hb2, hb3⟩ := id hP_kState_st
  by_cases hA : 0 ≤ z1 ∧ z1 < (S.length : Int)
  · -- hA
    obtain ⟨ln9, hv1⟩ : ∃ k : Nat, z1 = (k : Int) := ⟨z1.toNat, by omega⟩
    have hln : ln9 < S.length := by omega
    have hLn := hok.ln hln
    by_cases hA2 : 0 ≤ z2 ∧ z2 ≤ 7
    · -- hA2
      have hr9 := st_whyNot_rng S ln9 z2
      have hrv : -2147483648 ≤ st_whyNot S ln9 z2 ∧ st_whyNot S ln9 z2 ≤ 2147483647 := ⟨by omega, by omega⟩
      refine lv_aload_n hx hb dL_law_1064 rfl (lv_at hl 1 rfl) ?_
      refine lv_aload_n hx hb dL_law_1065 rfl (lv_at hl 0 rfl) ?_
      refine lv_iload hx hb dL_law_1066 (lv_at hl 5 rfl) ?_
      refine kx_iconst hx hb dL_law_1068 ?_
      refine kx_iadd hx hb dL_law_1069 ?_
      refine kx_sld (i := (((3 * j : Nat) : Int) + 1)) hx hb hX hbl hbA hS (3 * j + 1) (by omega) (by omega) (by omega) dL_law_1070 ?_
      refine kx_eqi (((ln9 : Nat) : Int)) (hz1.symm.trans hv1) ?_
      refine lv_aload_n hx hb dL_law_1071 rfl (lv_at hl 0 rfl) ?_
      refine lv_iload hx hb dL_law_1072 (lv_at hl 5 rfl) ?_
      refine kx_iconst hx hb dL_law_1074 ?_
      refine kx_iadd hx hb dL_law_1075 ?_
      refine kx_sld (i := (((3 * j : Nat) : Int) + 2)) hx hb hX hbl hbA hS (3 * j + 2) (by omega) (by omega) (by omega) dL_law_1076 ?_
      refine kx_eqi (z2) (hz2.symm) ?_
      refine lv_aload_n hx hb dL_law_1077 rfl (lv_at hl 3 rfl) ?_
      refine kx_ci (vx_runSW (As := [.ref x1, .int (kI ((ln9 : Nat) : Int)), .int (kI (z2)), .ref out]) (rest := []) ⟨hx, hb, hml, hown, hts⟩ (wr_whyNotStepped l hl9 D H x1 ((sl.map (fun a => a.1.1)).head?) hi bu st la mc9 ea F S gap ln9 z2 out go hO_x1 hO_st hO_la hLs9 hLn9 hA_out (by first | assumption | omega) (by first | assumption | omega) (by first | assumption | omega) (by first | assumption | omega) (by first | assumption | omega)) (vx_cwSW 4 hts (lw_SW q1966 q1967 q78 q1968) rfl rfl rfl (by decide +kernel) ⟨Nat.le_of_ble_eq_true rfl, Nat.le_of_ble_eq_true rfl⟩) (kx_ps hK hS hB) rfl rfl hl.1 rfl (lv_room (Nat.le_of_ble_eq_true rfl)) dL_law_1078 ⟨by first | exact Nat.le_of_ble_eq_true rfl | omega | (dsimp only [lwR]; omega) | (show _ ≤ _; omega), by first | exact Nat.le_of_ble_eq_true rfl | omega | (dsimp only [lwR]; omega) | (show _ ≤ _; omega)⟩) hS (fun q _ h => (fun h => Or.elim h (ge_out q) (fun h => Nat.le_trans hS.1 h)) h) (fun q h => (fun h => Or.elim h (ge_out q) (fun h => Nat.le_trans hS.1 h)) h) (fun z_6 H_4 locs_1 hz_3 hF_5 hS_2 => ?_)
      have hzf_7 := hF_5.1
      obtain ⟨hv_8, ho_9⟩ := hz_3
      subst z_6
      refine lv_istore (lv' := [(6, .int (kI (0))), (0, .ref b), (1, .ref x1), (2, .ref mm), (3, .ref out), (4, .ref outD), (5, .int (kI ((3 * j : Nat) : Int)))]) hx hb dL_law_1081 hl (by decide) rfl (fun ls hl => ?_)
      refine lv_aload_n hx hb dL_law_1083 rfl (lv_at hl 3 rfl) ?_
      refine lv_aload_n hx hb dL_law_1084 rfl (lv_at hl 1 rfl) ?_
      refine lv_iload hx hb dL_law_1085 (lv_at hl 6 rfl) ?_
      refine kx_iconst hx hb dL_law_1087 ?_
      refine kx_iadd hx hb dL_law_1088 ?_
      refine kx_sld (i := (((3 * j : Nat) : Int) + 1)) hx hb hX hbl hbA hS_2 (3 * j + 1) (by omega) (by omega) (by omega) dL_law_1089 ?_
      refine kx_eqi (((ln9 : Nat) : Int)) (hz1.symm.trans hv1) ?_
      refine lv_aload_n hx hb dL_law_1090 rfl (lv_at hl 1 rfl) ?_
      refine lv_iload hx hb dL_law_1091 (lv_at hl 6 rfl) ?_
      refine kx_iconst hx hb dL_law_1093 ?_
      refine kx_iadd hx hb dL_law_1094 ?_
      refine kx_sld (i := (((3 * j : Nat) : Int) + 2)) hx hb hX hbl hbA hS_2 (3 * j + 2) (by omega) (by omega) (by omega) dL_law_1095 ?_
      refine kx_eqi (z2) (hz2.symm) ?_
      have h_10 := hO_mm.fr hF_5 (fun h => Or.elim h (n_mm_out) (fun h => Nat.not_le_of_gt hO_mm.lt h))
      have h_11 := hA_ra.fr hF_5 (fun h => Or.elim h (n_ra_out) (fun h => Nat.not_le_of_gt hA_ra.lt h))
      have h_12 := hA_sa.fr hF_5 (fun h => Or.elim h (n_sa_out) (fun h => Nat.not_le_of_gt hA_sa.lt h))
      have h_13 := hA_ka.fr hF_5 (fun h => Or.elim h (n_ka_out) (fun h => Nat.not_le_of_gt hA_ka.lt h))
      have h_14 := hA_ta.fr hF_5 (fun h => Or.elim h (n_ta_out) (fun h => Nat.not_le_of_gt hA_ta.lt h))
      have ty_mm : ∀ x, x = mm → H_4.size ≤ x ∨ (kTy D H_4 x ∧ c0 ≤ x ∧ x < c1) := fun x h => by rw [h]; exact Or.inr ⟨Or.inl ⟨2, _, by decide, by decide, by decide, h_10⟩, i_mm.1, w_mm⟩
      refine kx_ci (va_runV (As := [.int (kI ((ln9 : Nat) : Int)), .int (kI (z2))]) (rest := []) ⟨hx, hb, hml, hown, hts⟩ (m_X3_whyNotStepped l D H_4 mm ra sa ka ta nh ik t.length th sp9 iw le9 fi9 se9 g S gap ln9 z2 h_10 h_11 (by first | assumption | omega) (by first | assumption | omega) n_mm_ra b_mm (by first | assumption | omega) (by first | assumption | omega)) (cwV 2 hts (lw_V q2483 q2484 q2485 q89 q2486) rfl rfl rfl (by decide +kernel) ⟨Nat.le_of_ble_eq_true rfl, Nat.le_of_ble_eq_true rfl⟩) (kx_pv hK hS_2 hB (kx_rc hK h_10 (C := RX3) (T := TX3) (N := 13) rfl)) rfl rfl hl.1 rfl (lv_room (Nat.le_of_ble_eq_true rfl)) dL_law_1096 ⟨by first | exact Nat.le_of_ble_eq_true rfl | omega | (dsimp only [lwR]; omega) | (show _ ≤ _; omega), by first | exact Nat.le_of_ble_eq_true rfl | omega | (dsimp only [lwR]; omega) | (show _ ≤ _; omega)⟩) hS_2 (fun q _ h => (ge_mm q) h) (fun q h => (ge_mm q) h) (fun z_20 H_18 locs_15 hz_17 hF_19 hS_16 => ?_)
      have hzf_21 := hF_19.1
      obtain ⟨hv_22, ho_23⟩ := hz_17
      subst z_20
      refine lv_istore (lv' := [(7, .int (kI (st_whyNot S ln9 z2))), (6, .int (kI (0))), (0, .ref b), (1, .ref x1), (2, .ref mm), (3, .ref out), (4, .ref outD), (5, .int (kI ((3 * j : Nat) : Int)))]) hx hb dL_law_1099 hl (by decide) rfl (fun ls hl => ?_)
      refine lv_aload_n hx hb dL_law_1101 rfl (lv_at hl 4 rfl) ?_
      refine kx_ci0 (va_runV (As := []) (rest := []) ⟨hx, hb, hml, hown, hts⟩ (m_X3_thrown l D H_18 mm ra sa ka ta nh ik t.length 0 sp9 iw le9 fi9 se9 ho_23 ) (cwV 0 hts (lw_V q2278 q2279 q2280 q89 q2281) rfl rfl rfl (by decide +kernel) ⟨Nat.le_of_ble_eq_true rfl, Nat.le_of_ble_eq_true rfl⟩) (kx_pv hK hS_16 hB (kx_rc hK ho_23 (C := RX3) (T := TX3) (N := 13) rfl)) rfl rfl hl.1 rfl (lv_room (Nat.le_of_ble_eq_true rfl)) dL_law_1102 ⟨by first | exact Nat.le_of_ble_eq_true rfl | omega | (dsimp only [lwR]; omega) | (show _ ≤ _; omega), by first | exact Nat.le_of_ble_eq_true rfl | omega | (dsimp only [lwR]; omega) | (show _ ≤ _; omega)⟩) hS_16 (fun z_27 locs_24 hz_26 hS_25 => ?_)
      subst z_27
      refine lv_iload hx hb dL_law_1105 (lv_at hl 1 rfl) ?_
      refine kx_icmp_eq (x := 0) (y := 0) (tgt := 1112) hx hb dL_law_1107 (by decide) (by omega) (by omega) (by omega) (by omega) (fun c_1107_28 => ?_) (fun c_1107_28 => ?_)
      · -- taken at 1107
        refine lv_iload hx hb dL_law_1112 (lv_at hl 1 rfl) ?_
        refine kx_if_ne (x := 0) (tgt := 1129) hx hb dL_law_1114 (by decide) (by omega) (by omega) (fun c_1114_29 => ?_) (fun c_1114_29 => ?_)
        · -- taken at 1114
          exfalso; omega
        · -- not taken at 1114
          refine lv_aload_n hx hb dL_law_1117 rfl (lv_at hl 5 rfl) ?_
          refine kx_iconst hx hb dL_law_1118 ?_
          have h_30 := ho_9.fr hF_19 (n_mm_out.sm)
          refine kx_lald (i := 0) hx hb hK h_30 0 rfl (by decide) (by decide) dL_law_1119 ?_
          refine lv_iload hx hb dL_law_1120 (lv_at hl 0 rfl) ?_
          refine kx_i2l hx hb (z := st_whyNot S ln9 z2) (by omega) (by omega) dL_law_1122 ?_
          refine kx_lcmpE hx hb (x := ((kup go 0 (kL (st_whyNot S ln9 z2)))) 0) (y := kL (st_whyNot S ln9 z2)) (kup_self _ _ _) dL_law_1123 ?_
          refine kx_if_eq (x := 0) (tgt := 1129) hx hb dL_law_1124 (by decide) (by omega) (by omega) (fun c_1124_31 => ?_) (fun c_1124_31 => ?_)
          · -- taken at 1124
            refine lv_goto (tgt := 2493) hx hb dL_law_1129 (by decide) ?_
            have h_32 := h_11.fr hF_19 (n_mm_ra.sm)
            have h_33 := h_12.fr hF_19 (n_mm_sa.sm)
            have h_34 := h_13.fr hF_19 (n_mm_ka.sm)
            have h_35 := h_14.fr hF_19 (n_mm_ta.sm)
            have h_36 := hA_outD.fr hF_5 (fun h => Or.elim h (n_out_outD.sm) (fun h => Nat.not_le_of_gt hA_outD.lt h))
            have h_37 := h_36.fr hF_19 (n_mm_outD.sm)
            have h_38 := hW.fr hd9 hF_5 (fun x => (fun h => Or.elim h (to_out x) (fun h => Or.inl h)))
            have h_39 := h_38.fr hd9 hF_19 (fun x => (ty_mm x))
            refine W.widen (k := cells + 50000) (n := slots + 228000) (by omega) (by omega) ?_
            have hM9 : kM D H_18 c0 out mm (S, gap) ((sl.map Prod.snd).head?) (hl2.map Prod.snd) t := ⟨ra, sa, ka, ta, _, _, _, _, _, _, _, _, _, _, _, _, ho_23, h_32, h_33, h_34, h_35, hMr, hMh, hMk, hMt, ht60, hMd, hMb, hMi⟩
            exact kk (S, gap) ((sl.map Prod.snd).head?) (hl2.map Prod.snd) t _ _ _ ⟨hS_25, lv_sub hl [2, 3, 4, 5, 6, 7] rfl, h_39, hM9, ⟨_, h_30⟩, ⟨_, h_37⟩, by omega, by omega⟩
          · -- not taken at 1124
            exfalso; omega
      · -- not taken at 1107
        exfalso; omega
    · -- hA2
      refine lv_aload_n hx hb dL_law_1064 rfl (lv_at hl 1 rfl) ?_
      refine lv_aload_n hx hb dL_law_1065 rfl (lv_at hl 0 rfl) ?_
      refine lv_iload hx hb dL_law_1066 (lv_at hl 5 rfl) ?_
      refine kx_iconst hx hb dL_law_1068 ?_
      refine kx_iadd hx hb dL_law_1069 ?_
      refine kx_sld (i := (((3 * j : Nat) : Int) + 1)) hx hb hX hbl hbA hS (3 * j + 1) (by omega) (by omega) (by omega) dL_law_1070 ?_
      refine kx_eqi (((ln9 : Nat) : Int)) (hz1.symm.trans hv1) ?_
      refine lv_aload_n hx hb dL_law_1071 rfl (lv_at hl 0 rfl) ?_
      refine lv_iload hx hb dL_law_1072 (lv_at hl 5 rfl) ?_
      refine kx_iconst hx hb dL_law_1074 ?_
      refine kx_iadd hx hb dL_law_1075 ?_
      refine kx_sld (i := (((3 * j : Nat) : Int) + 2)) hx hb hX hbl hbA hS (3 * j + 2) (by omega) (by omega) (by omega) dL_law_1076 ?_
      refine kx_eqi (z2) (hz2.symm) ?_
      refine lv_aload_n hx hb dL_law_1077 rfl (lv_at hl 3 rfl) ?_
      refine kx_ci (vx_runSW (As := [.ref x1, .int (kI ((ln9 : Nat) : Int)), .int (kI (z2)), .ref out]) (rest := []) ⟨hx, hb, hml, hown, hts⟩ (wx_whyNotStepped_d l hl9 D H x1 ((sl.map (fun a => a.1.1)).head?) hi bu st la mc9 ea F S gap ln9 z2 out hO_x1 hO_st hO_la hLs9 hLn9 (by first | assumption | omega) (by first | assumption | omega) (by first | assumption | omega) (by first | assumption | omega)) (vx_cwSW 4 hts (lw_SW q1966 q1967 q78 q1968) rfl rfl rfl (by decide +kernel) ⟨Nat.le_of_ble_eq_true rfl, Nat.le_of_ble_eq_true rfl⟩) (kx_ps hK hS hB) rfl rfl hl.1 rfl (lv_room (Nat.le_of_ble_eq_true rfl)) dL_law_1078 ⟨by first | exact Nat.le_of_ble_eq_true rfl | omega | (dsimp only [lwR]; omega) | (show _ ≤ _; omega), by first | exact Nat.le_of_ble_eq_true rfl | omega | (dsimp only [lwR]; omega) | (show _ ≤ _; omega)⟩) hS (fun q _ h => by have h9 := hS.1; (try dsimp only at h); (try dsimp only); (try simp only [kNW] at h); (try simp only [kNW]); omega) (fun q h => by have h9 := hS.1; (try dsimp only at h); (try dsimp only); (try simp only [kNW] at h); (try simp only [kNW]); omega) (fun z_45 H_43 locs_40 hz_42 hF_44 hS_41 => ?_)
      have hzf_46 := hF_44.1
      have hF_44 := hF_44.nw
      obtain ⟨hv_47, hnw_48⟩ := hz_42
      subst z_45
      refine lv_istore (lv' := [(6, .int (kI (2))), (0, .ref b), (1, .ref x1), (2, .ref mm), (3, .ref out), (4, .ref outD), (5, .int (kI ((3 * j : Nat) : Int)))]) hx hb dL_law_1081 hl (by decide) rfl (fun ls hl => ?_)
      refine lv_aload_n hx hb dL_law_1083 rfl (lv_at hl 3 rfl) ?_
      refine lv_aload_n hx hb dL_law_1084 rfl (lv_at hl 1 rfl) ?_
      refine lv_iload hx hb dL_law_1085 (lv_at hl 6 rfl) ?_
      refine kx_iconst hx hb dL_law_1087 ?_
      refine kx_iadd hx hb dL_law_1088 ?_
      refine kx_sld (i := (((3 * j : Nat) : Int) + 1)) hx hb hX hbl hbA hS_41 (3 * j + 1) (by omega) (by omega) (by omega) dL_law_1089 ?_
      refine kx_eqi (((ln9 : Nat) : Int)) (hz1.symm.trans hv1) ?_
      refine lv_aload_n hx hb dL_law_1090 rfl (lv_at hl 1 rfl) ?_
      refine lv_iload hx hb dL_law_1091 (lv_at hl 6 rfl) ?_
      refine kx_iconst hx hb dL_law_1093 ?_
      refine kx_iadd hx hb dL_law_1094 ?_
      refine kx_sld (i := (((3 * j : Nat) : Int) + 2)) hx hb hX hbl hbA hS_41 (3 * j + 2) (by omega) (by omega) (by omega) dL_law_1095 ?_
      refine kx_eqi (z2) (hz2.symm) ?_
      have h_49 := hO_mm.ex hF_44
      have h_50 := hA_ra.ex hF_44
      have h_51 := hA_sa.ex hF_44
      have h_52 := hA_ka.ex hF_44
      have h_53 := hA_ta.ex hF_44
      have ty_mm : ∀ x, x = mm → H_43.size ≤ x ∨ (kTy D H_43 x ∧ c0 ≤ x ∧ x < c1) := fun x h => by rw [h]; exact Or.inr ⟨Or.inl ⟨2, _, by decide, by decide, by decide, h_49⟩, i_mm.1, w_mm⟩
      refine kx_ci (va_runV (As := [.int (kI ((ln9 : Nat) : Int)), .int (kI (z2))]) (rest := []) ⟨hx, hb, hml, hown, hts⟩ (m_X3_whyNotStepped_no2 l D H_43 mm ra sa ka ta nh ik t.length th sp9 iw le9 fi9 se9 g S gap ln9 z2 h_49 h_50 (by first | assumption | omega) (by first | assumption | omega) n_mm_ra b_mm (by first | assumption | omega) (by first | assumption | omega) (by first | assumption | omega)) (cwV 2 hts (lw_V q2483 q2484 q2485 q89 q2486) rfl rfl rfl (by decide +kernel) ⟨Nat.le_of_ble_eq_true rfl, Nat.le_of_ble_eq_true rfl⟩) (kx_pv hK hS_41 hB (kx_rc hK h_49 (C := RX3) (T := TX3) (N := 13) rfl)) rfl rfl hl.1 rfl (lv_room (Nat.le_of_ble_eq_true rfl)) dL_law_1096 ⟨by first | exact Nat.le_of_ble_eq_true rfl | omega | (dsimp only [lwR]; omega) | (show _ ≤ _; omega), by first | exact Nat.le_of_ble_eq_true rfl | omega | (dsimp only [lwR]; omega) | (show _ ≤ _; omega)⟩) hS_41 (fun q _ h => (ge_mm q) h) (fun q h => (ge_mm q) h) (fun z_59 H_57 locs_54 hz_56 hF_58 hS_55 => ?_)
      have hzf_60 := hF_58.1
      obtain ⟨hv_61, ho_62⟩ := hz_56
      subst z_59
      refine lv_istore (lv' := [(7, .int (kI (0))), (6, .int (kI (2))), (0, .ref b), (1, .ref x1), (2, .ref mm), (3, .ref out), (4, .ref outD), (5, .int (kI ((3 * j : Nat) : Int)))]) hx hb dL_law_1099 hl (by decide) rfl (fun ls hl => ?_)
      refine lv_aload_n hx hb dL_law_1101 rfl (lv_at hl 4 rfl) ?_
      refine kx_ci0 (va_runV (As := []) (rest := []) ⟨hx, hb, hml, hown, hts⟩ (m_X3_thrown l D H_57 mm ra sa ka ta nh ik t.length 2 sp9 iw le9 fi9 se9 ho_62 ) (cwV 0 hts (lw_V q2278 q2279 q2280 q89 q2281) rfl rfl rfl (by decide +kernel) ⟨Nat.le_of_ble_eq_true rfl, Nat.le_of_ble_eq_true rfl⟩) (kx_pv hK hS_55 hB (kx_rc hK ho_62 (C := RX3) (T := TX3) (N := 13) rfl)) rfl rfl hl.1 rfl (lv_room (Nat.le_of_ble_eq_true rfl)) dL_law_1102 ⟨by first | exact Nat.le_of_ble_eq_true rfl | omega | (dsimp only [lwR]; omega) | (show _ ≤ _; omega), by first | exact Nat.le_of_ble_eq_true rfl | omega | (dsimp only [lwR]; omega) | (show _ ≤ _; omega)⟩) hS_55 (fun z_66 locs_63 hz_65 hS_64 => ?_)
      subst z_66
      refine lv_iload hx hb dL_law_1105 (lv_at hl 1 rfl) ?_
      refine kx_icmp_eq (x := 2) (y := 2) (tgt := 1112) hx hb dL_law_1107 (by decide) (by omega) (by omega) (by omega) (by omega) (fun c_1107_67 => ?_) (fun c_1107_67 => ?_)
      · -- taken at 1107
        refine lv_iload hx hb dL_law_1112 (lv_at hl 1 rfl) ?_
        refine kx_if_ne (x := 2) (tgt := 1129) hx hb dL_law_1114 (by decide) (by omega) (by omega) (fun c_1114_68 => ?_) (fun c_1114_68 => ?_)
        · -- taken at 1114
          refine lv_goto (tgt := 2493) hx hb dL_law_1129 (by decide) ?_
          have h_69 := h_50.fr hF_58 (n_mm_ra.sm)
          have h_70 := h_51.fr hF_58 (n_mm_sa.sm)
          have h_71 := h_52.fr hF_58 (n_mm_ka.sm)
          have h_72 := h_53.fr hF_58 (n_mm_ta.sm)
          have h_73 := hA_out.ex hF_44
          have h_74 := h_73.fr hF_58 (n_mm_out.sm)
          have h_75 := hA_outD.ex hF_44
          have h_76 := h_75.fr hF_58 (n_mm_outD.sm)
          have h_77 := hW.ex hd9 hF_44
          have h_78 := h_77.fr hd9 hF_58 (fun x => (ty_mm x))
          refine W.widen (k := cells + 50000) (n := slots + 228000) (by omega) (by omega) ?_
          have hM9 : kM D H_57 c0 out mm (S, gap) ((sl.map Prod.snd).head?) (hl2.map Prod.snd) t := ⟨ra, sa, ka, ta, _, _, _, _, _, _, _, _, _, _, _, _, ho_62, h_69, h_70, h_71, h_72, hMr, hMh, hMk, hMt, ht60, hMd, hMb, hMi⟩
          exact kk (S, gap) ((sl.map Prod.snd).head?) (hl2.map Prod.snd) t _ _ _ ⟨hS_64, lv_sub hl [2, 3, 4, 5, 6, 7] rfl, h_78, hM9, ⟨_, h_74⟩, ⟨_, h_76⟩, by omega, by omega⟩
        · -- not taken at 1114
          exfalso; omega
      · -- not taken at 1107
        exfalso; omega
  · -- hA
    refine lv_aload_n hx hb dL_law_1064 rfl (lv_at hl 1 rfl) ?_
    refine lv_aload_n hx hb dL_law_1065 rfl (lv_at hl 0 rfl) ?_
    refine lv_iload hx hb dL_law_1066 (lv_at hl 5 rfl) ?_
    refine kx_iconst hx hb dL_law_1068 ?_
    refine kx_iadd hx hb dL_law_1069 ?_
    refine kx_sld (i := (((3 * j : Nat) : Int) + 1)) hx hb hX hbl hbA hS (3 * j + 1) (by omega) (by omega) (by omega) dL_law_1070 ?_
    refine kx_eqi (z1) (hz1.symm) ?_
    refine lv_aload_n hx hb dL_law_1071 rfl (lv_at hl 0 rfl) ?_
    refine lv_iload hx hb dL_law_1072 (lv_at hl 5 rfl) ?_
    refine kx_iconst hx hb dL_law_1074 ?_
    refine kx_iadd hx hb dL_law_1075 ?_
    refine kx_sld (i := (((3 * j : Nat) : Int) + 2)) hx hb hX hbl hbA hS (3 * j + 2) (by omega) (by omega) (by omega) dL_law_1076 ?_
    refine kx_eqi (z2) (hz2.symm) ?_
    refine lv_aload_n hx hb dL_law_1077 rfl (lv_at hl 3 rfl) ?_
    refine kx_ci (vx_runSW (As := [.ref x1, .int (kI (z1)), .int (kI (z2)), .ref out]) (rest := []) ⟨hx, hb, hml, hown, hts⟩ (wx_whyNotStepped l hl9 D H x1 ((sl.map (fun a => a.1.1)).head?) hi bu st la mc9 ea F S gap z1 z2 out hO_x1 hO_st hO_la hLs9 hLn9 (by first | assumption | omega) (by first | assumption | omega) (by first | assumption | omega)) (vx_cwSW 4 hts (lw_SW q1966 q1967 q78 q1968) rfl rfl rfl (by decide +kernel) ⟨Nat.le_of_ble_eq_true rfl, Nat.le_of_ble_eq_true rfl⟩) (kx_ps hK hS hB) rfl rfl hl.1 rfl (lv_room (Nat.le_of_ble_eq_true rfl)) dL_law_1078 ⟨by first | exact Nat.le_of_ble_eq_true rfl | omega | (dsimp only [lwR]; omega) | (show _ ≤ _; omega), by first | exact Nat.le_of_ble_eq_true rfl | omega | (dsimp only [lwR]; omega) | (show _ ≤ _; omega)⟩) hS (fun q _ h => by have h9 := hS.1; (try dsimp only at h); (try dsimp only); (try simp only [kNW] at h); (try simp only [kNW]); omega) (fun q h => by have h9 := hS.1; (try dsimp only at h); (try dsimp only); (try simp only [kNW] at h); (try simp only [kNW]); omega) (fun z_84 H_82 locs_79 hz_81 hF_83 hS_80 => ?_)
    have hzf_85 := hF_83.1
    have hF_83 := hF_83.nw
    obtain ⟨hv_86, hnw_87⟩ := hz_81
    subst z_84
    refine lv_istore (lv' := [(6, .int (kI (1))), (0, .ref b), (1, .ref x1), (2, .ref mm), (3, .ref out), (4, .ref outD), (5, .int (kI ((3 * j : Nat) : Int)))]) hx hb dL_law_1081 hl (by decide) rfl (fun ls hl => ?_)
    refine lv_aload_n hx hb dL_law_1083 rfl (lv_at hl 3 rfl) ?_
    refine lv_aload_n hx hb dL_law_1084 rfl (lv_at hl 1 rfl) ?_
    refine lv_iload hx hb dL_law_1085 (lv_at hl 6 rfl) ?_
    refine kx_iconst hx hb dL_law_1087 ?_
    refine kx_iadd hx hb dL_law_1088 ?_
    refine kx_sld (i := (((3 * j : Nat) : Int) + 1)) hx hb hX hbl hbA hS_80 (3 * j + 1) (by omega) (by omega) (by omega) dL_law_1089 ?_
    refine kx_eqi (z1) (hz1.symm) ?_
    refine lv_aload_n hx hb dL_law_1090 rfl (lv_at hl 1 rfl) ?_
    refine lv_iload hx hb dL_law_1091 (lv_at hl 6 rfl) ?_
    refine kx_iconst hx hb dL_law_1093 ?_
    refine kx_iadd hx hb dL_law_1094 ?_
    refine kx_sld (i := (((3 * j : Nat) : Int) + 2)) hx hb hX hbl hbA hS_80 (3 * j + 2) (by omega) (by omega) (by omega) dL_law_1095 ?_
    refine kx_eqi (z2) (hz2.symm) ?_
    have h_88 := hO_mm.ex hF_83
    have h_89 := hA_ra.ex hF_83
    have h_90 := hA_sa.ex hF_83
    have h_91 := hA_ka.ex hF_83
    have h_92 := hA_ta.ex hF_83
    have ty_mm : ∀ x, x = mm → H_82.size ≤ x ∨ (kTy D H_82 x ∧ c0 ≤ x ∧ x < c1) := fun x h => by rw [h]; exact Or.inr ⟨Or.inl ⟨2, _, by decide, by decide, by decide, h_88⟩, i_mm.1, w_mm⟩
    refine kx_ci (va_runV (As := [.int (kI (z1)), .int (kI (z2))]) (rest := []) ⟨hx, hb, hml, hown, hts⟩ (m_X3_whyNotStepped_no1 l D H_82 mm ra sa ka ta nh ik t.length th sp9 iw le9 fi9 se9 g S gap z1 z2 h_88 h_89 (by first | assumption | omega) (by first | assumption | omega) n_mm_ra b_mm (by first | assumption | omega) (by first | assumption | omega) (by first | assumption | omega)) (cwV 2 hts (lw_V q2483 q2484 q2485 q89 q2486) rfl rfl rfl (by decide +kernel) ⟨Nat.le_of_ble_eq_true rfl, Nat.le_of_ble_eq_true rfl⟩) (kx_pv hK hS_80 hB (kx_rc hK h_88 (C := RX3) (T := TX3) (N := 13) rfl)) rfl rfl hl.1 rfl (lv_room (Nat.le_of_ble_eq_true rfl)) dL_law_1096 ⟨by first | exact Nat.le_of_ble_eq_true rfl | omega | (dsimp only [lwR]; omega) | (show _ ≤ _; omega), by first | exact Nat.le_of_ble_eq_true rfl | omega | (dsimp only [lwR]; omega) | (show _ ≤ _; omega)⟩) hS_80 (fun q _ h => (ge_mm q) h) (fun q h => (ge_mm q) h) (fun z_98 H_96 locs_93 hz_95 hF_97 hS_94 => ?_)
    have hzf_99 := hF_97.1
    obtain ⟨hv_100, ho_101⟩ := hz_95
    subst z_98
    refine lv_istore (lv' := [(7, .int (kI (0))), (6, .int (kI (1))), (0, .ref b), (1, .ref x1), (2, .ref mm), (3, .ref out), (4, .ref outD), (5, .int (kI ((3 * j : Nat) : Int)))]) hx hb dL_law_1099 hl (by decide) rfl (fun ls hl => ?_)
    refine lv_aload_n hx hb dL_law_1101 rfl (lv_at hl 4 rfl) ?_
    refine kx_ci0 (va_runV (As := []) (rest := []) ⟨hx, hb, hml, hown, hts⟩ (m_X3_thrown l D H_96 mm ra sa ka ta nh ik t.length 1 sp9 iw le9 fi9 se9 ho_101 ) (cwV 0 hts (lw_V q2278 q2279 q2280 q89 q2281) rfl rfl rfl (by decide +kernel) ⟨Nat.le_of_ble_eq_true rfl, Nat.le_of_ble_eq_true rfl⟩) (kx_pv hK hS_94 hB (kx_rc hK ho_101 (C := RX3) (T := TX3) (N := 13) rfl)) rfl rfl hl.1 rfl (lv_room (Nat.le_of_ble_eq_true rfl)) dL_law_1102 ⟨by first | exact Nat.le_of_ble_eq_true rfl | omega | (dsimp only [lwR]; omega) | (show _ ≤ _; omega), by first | exact Nat.le_of_ble_eq_true rfl | omega | (dsimp only [lwR]; omega) | (show _ ≤ _; omega)⟩) hS_94 (fun z_105 locs_102 hz_104 hS_103 => ?_)
    subst z_105
    refine lv_iload hx hb dL_law_1105 (lv_at hl 1 rfl) ?_
    refine kx_icmp_eq (x := 1) (y := 1) (tgt := 1112) hx hb dL_law_1107 (by decide) (by omega) (by omega) (by omega) (by omega) (fun c_1107_106 => ?_) (fun c_1107_106 => ?_)
    · -- taken at 1107
      refine lv_iload hx hb dL_law_1112 (lv_at hl 1 rfl) ?_
      refine kx_if_ne (x := 1) (tgt := 1129) hx hb dL_law_1114 (by decide) (by omega) (by omega) (fun c_1114_107 => ?_) (fun c_1114_107 => ?_)
      · -- taken at 1114
        refine lv_goto (tgt := 2493) hx hb dL_law_1129 (by decide) ?_
        have h_108 := h_89.fr hF_97 (n_mm_ra.sm)
        have h_109 := h_90.fr hF_97 (n_mm_sa.sm)
        have h_110 := h_91.fr hF_97 (n_mm_ka.sm)
        have h_111 := h_92.fr hF_97 (n_mm_ta.sm)
        have h_112 := hA_out.ex hF_83
        have h_113 := h_112.fr hF_97 (n_mm_out.sm)
        have h_114 := hA_outD.ex hF_83
        have h_115 := h_114.fr hF_97 (n_mm_outD.sm)
        have h_116 := hW.ex hd9 hF_83
        have h_117 := h_116.fr hd9 hF_97 (fun x => (ty_mm x))
        refine W.widen (k := cells + 50000) (n := slots + 228000) (by omega) (by omega) ?_
        have hM9 : kM D H_96 c0 out mm (S, gap) ((sl.map Prod.snd).head?) (hl2.map Prod.snd) t := ⟨ra, sa, ka, ta, _, _, _, _, _, _, _, _, _, _, _, _, ho_101, h_108, h_109, h_110, h_111, hMr, hMh, hMk, hMt, ht60, hMd, hMb, hMi⟩
        exact kk (S, gap) ((sl.map Prod.snd).head?) (hl2.map Prod.snd) t _ _ _ ⟨hS_103, lv_sub hl [2, 3, 4, 5, 6, 7] rfl, h_117, hM9, ⟨_, h_113⟩, ⟨_, h_115⟩, by omega, by omega⟩
      · -- not taken at 1114
        exfalso; omega
    · -- not taken at 1107
      exfalso; omega

set_option maxHeartbeats 8000000 in
set_option maxRecDepth 100000 in
theorem lc_isWithinByRays {p : Program} {e : Env} {s : State} {m : MethodId} {below : List Frame} {meth : Method} {c : Code} {l : Launch} {D : kG} {b L c0 c1 x1 mm out outD : Nat} {xs : Nat → Int32} {Q : State → Prop} (C0 : lwC D p l s m meth c b L c0 c1 out outD xs) {j : Nat} (hj : 3 * j + 3 ≤ L) {S : Ls} {gap : Int} {sn : Option Sg} {hs : List Sg} {t : List Int} {H : Heap} {locs : List Loc} {ls : Array Slot} (I0 : lwI D s b c0 c1 x1 mm out outD j j (S, gap) sn hs t H locs ls) {cells slots : Nat} (hcl : cells + 50000 ≤ 1200144) (hsl9 : slots + 228000 ≤ 5496058) (kk : ∀ (σ : Sg) (sn : Option Sg) (hs : List Sg) (t : List Int) (H : Heap) (locs : List Loc) (ls : Array Slot), lwI D s b c0 c1 x1 mm out outD j (j + 1) σ sn hs t H locs ls → W p l e lwR s m #[Value.ref b] below meth c H locs (cells + 50000) (slots + 228000) Q (F0 m 2493 ls [])) : W p l e lwR s m #[Value.ref b] below meth c H locs cells slots Q (F0 m 1872 ls []) := by
  obtain ⟨hx, hb, hml, hown, hts, hlk, hK, hl9, hX, hbl, hbs, hL72, hc0, hco, hod, hdc⟩ := C0
  obtain ⟨hS, hl, hW, hM, ⟨go, hA_out⟩, ⟨gd, hA_outD⟩, hc1, htl⟩ := I0
  have hB : ∀ q, (kNW s.heap) q → kBase D ≤ q := fun q h => Nat.le_trans hK.size h
  have hbA : ¬ (kNW s.heap) b := fun h => by have h9 : s.heap.size ≤ b := h; omega
  have hd9 := hK.dis
  have hxE : ¬ kBase D ≤ D.2.2.2 2 := hK.tE.out
  obtain ⟨z1, hz1⟩ : ∃ z, z = (xs (3 * j + 1)).toInt := ⟨_, rfl⟩
  obtain ⟨z2, hz2⟩ : ∃ z, z = (xs (3 * j + 2)).toInt := ⟨_, rfl⟩
  have hr1 : -2147483648 ≤ z1 ∧ z1 ≤ 2147483647 := by rw [hz1]; exact i32r _
  have hr2 : -2147483648 ≤ z2 ∧ z2 ≤ 2147483647 := by rw [hz2]; exact i32r _
  obtain ⟨⟨st, la, ea, F⟩, sl, hl2, hi, es, bu, vb, hO_x1, hDq, hTx, hX5, hev, hAl, hDj, hPw, hsl, hsn, hhs⟩ := id hW
  subst hsn
  subst hhs
  obtain ⟨ra, sa, ka, ta, nh, ik, th, sp9, iw, le9, fi9, se9, g, gs, gk, gt, hO_mm, hA_ra, hA_sa, hA_ka, hA_ta, hMr, hMh, hMk, hMt, ht60, hMd, hMb, hMi⟩ := id hM
  have hMr : MRow g S gap := hMr
  have h0 := hAl _ List.mem_cons_self
  have hP_kState_st : kState D H st la ea gap S F := h0.1
  have hok : LsOK S gap := h0.2.1
  have hG : StG S := h0.2.2.1
  have hL8 : S.length ≤ 8 := hok.1
  have hgp := hok.2.1
  have hO_x1 : kO D H x1 0 [.ref st, va_rf ((sl.map (fun a => a.1.1)).head?), .ref hi, .ref bu] := hO_x1
  have hOw : ∀ q, kOwn D st la ea F S.length q → q ∉ [x1, hi, es, bu, vb] ∧ (q < c0 ∨ c1 ≤ q) := h0.2.2.2
  have hev : Hd (es ≠ vb) := hev
  have io_x1 : ∀ x, c0 ≤ x → x < c1 → x ≠ x1 := fun x => out_of (hX5 x1 (by simp)).2
  have io_hi : ∀ x, c0 ≤ x → x < c1 → x ≠ hi := fun x => out_of (hX5 hi (by simp)).2
  have io_es : ∀ x, c0 ≤ x → x < c1 → x ≠ es := fun x => out_of (hX5 es (by simp)).2
  have io_bu : ∀ x, c0 ≤ x → x < c1 → x ≠ bu := fun x => out_of (hX5 bu (by simp)).2
  have io_vb : ∀ x, c0 ≤ x → x < c1 → x ≠ vb := fun x => out_of (hX5 vb (by simp)).2
  have b_x1 := (hX5 x1 (by simp)).1
  have b_hi := (hX5 hi (by simp)).1
  have b_es := (hX5 es (by simp)).1
  have b_bu := (hX5 bu (by simp)).1
  have b_vb := (hX5 vb (by simp)).1
  obtain ⟨⟨⟨n1, n2, n3, n4⟩, n5, n6, n7⟩, n8, n9, n10⟩ := hMd
  have n_mm_ra : Hd (mm ≠ ra) := n1
  have n_mm_sa : Hd (mm ≠ sa) := n2
  have n_mm_ka : Hd (mm ≠ ka) := n3
  have n_mm_ta : Hd (mm ≠ ta) := n4
  have n_ra_sa : Hd (ra ≠ sa) := n5
  have n_ra_ka : Hd (ra ≠ ka) := n6
  have n_ra_ta : Hd (ra ≠ ta) := n7
  have n_sa_ka : Hd (sa ≠ ka) := n8
  have n_sa_ta : Hd (sa ≠ ta) := n9
  have n_ka_ta : Hd (ka ≠ ta) := n10
  have hMd : Hd (((mm ≠ ra ∧ mm ≠ sa ∧ mm ≠ ka ∧ mm ≠ ta) ∧ ra ≠ sa ∧ ra ≠ ka ∧ ra ≠ ta) ∧ sa ≠ ka ∧ sa ≠ ta ∧ ka ≠ ta) := ⟨⟨⟨n1, n2, n3, n4⟩, n5, n6, n7⟩, n8, n9, n10⟩
  clear n1 n2 n3 n4 n5 n6 n7 n8 n9 n10
  obtain ⟨b_mm, b_ra, b_sa, b_ka, b_ta⟩ := id hMb
  obtain ⟨i_mm, i_ra, i_sa, i_ka, i_ta⟩ := id hMi
  have b_out : kBase D ≤ out := by omega
  have hcc : c0 ≤ c1 := by omega
  have w_mm : mm < c1 := by omega
  have n_mm_out : Hd (mm ≠ out) := Nat.ne_of_lt i_mm.2
  have n_mm_outD : Hd (mm ≠ outD) := Nat.ne_of_lt (Nat.lt_trans i_mm.2 hod)
  have w_ra : ra < c1 := by omega
  have n_ra_out : Hd (ra ≠ out) := Nat.ne_of_lt i_ra.2
  have n_ra_outD : Hd (ra ≠ outD) := Nat.ne_of_lt (Nat.lt_trans i_ra.2 hod)
  have w_sa : sa < c1 := by omega
  have n_sa_out : Hd (sa ≠ out) := Nat.ne_of_lt i_sa.2
  have n_sa_outD : Hd (sa ≠ outD) := Nat.ne_of_lt (Nat.lt_trans i_sa.2 hod)
  have w_ka : ka < c1 := by omega
  have n_ka_out : Hd (ka ≠ out) := Nat.ne_of_lt i_ka.2
  have n_ka_outD : Hd (ka ≠ outD) := Nat.ne_of_lt (Nat.lt_trans i_ka.2 hod)
  have w_ta : ta < c1 := by omega
  have n_ta_out : Hd (ta ≠ out) := Nat.ne_of_lt i_ta.2
  have n_ta_outD : Hd (ta ≠ outD) := Nat.ne_of_lt (Nat.lt_trans i_ta.2 hod)
  have ge_mm : ∀ q, q = mm → kNW s.heap q := fun q h => by rw [h]; show s.heap.size ≤ mm; omega
  have ge_ra : ∀ q, q = ra → kNW s.heap q := fun q h => by rw [h]; show s.heap.size ≤ ra; omega
  have ge_sa : ∀ q, q = sa → kNW s.heap q := fun q h => by rw [h]; show s.heap.size ≤ sa; omega
  have ge_ka : ∀ q, q = ka → kNW s.heap q := fun q h => by rw [h]; show s.heap.size ≤ ka; omega
  have ge_ta : ∀ q, q = ta → kNW s.heap q := fun q h => by rw [h]; show s.heap.size ≤ ta; omega
  have ge_out : ∀ q, q = out → kNW s.heap q := fun q h => by rw [h]; show s.heap.size ≤ out; omega
  have n_out_outD : Hd (out ≠ outD) := Nat.ne_of_lt hod
  have w_out : out < c1 := by omega
  have w_outD : outD < c1 := hdc
  have i_outD : c0 ≤ outD := by omega
  have htyo : kTy D H out := Or.inr ⟨2, _, by decide, hA_out⟩
  have htyd : kTy D H outD := Or.inr ⟨3, _, by decide, hA_outD⟩
  have to_out : ∀ x, x = out → H.size ≤ x ∨ (kTy D H x ∧ c0 ≤ x ∧ x < c1) := fun x h => by rw [h]; exact Or.inr ⟨htyo, hco, w_out⟩
  have to_outD : ∀ x, x = outD → H.size ≤ x ∨ (kTy D H x ∧ c0 ≤ x ∧ x < c1) := fun x h => by rw [h]; exact Or.inr ⟨htyd, i_outD, w_outD⟩
  obtain ⟨⟨hO_st, mc9, hO_la⟩, hLs9, hLn9, hF9, hDs9, hb1, hb2, hb3⟩ := id hP_kState_st
  by_cases hA : 0 ≤ z1 ∧ z1 < (S.length : Int)
  · -- hA
    obtain ⟨ln9, hv1⟩ : ∃ k : Nat, z1 = (k : Int) := ⟨z1.toNat, by omega⟩
    have hln : ln9 < S.length := by omega
    have hLn := hok.ln hln
    by_cases hA2 : 0 ≤ z2 ∧ z2 ≤ 383
    · -- hA2
      refine lv_aload_n hx hb dL_law_1872 rfl (lv_at hl 1 rfl) ?_
      refine lv_aload_n hx hb dL_law_1873 rfl (lv_at hl 0 rfl) ?_
      refine lv_iload hx hb dL_law_1874 (lv_at hl 5 rfl) ?_
      refine kx_iconst hx hb dL_law_1876 ?_
      refine kx_iadd hx hb dL_law_1877 ?_
      refine kx_sld (i := (((3 * j : Nat) : Int) + 1)) hx hb hX hbl hbA hS (3 * j + 1) (by omega) (by omega) (by omega) dL_law_1878 ?_
      refine kx_eqi (((ln9 : Nat) : Int)) (hz1.symm.trans hv1) ?_
      refine lv_aload_n hx hb dL_law_1879 rfl (lv_at hl 0 rfl) ?_
      refine lv_iload hx hb dL_law_1880 (lv_at hl 5 rfl) ?_
      refine kx_iconst hx hb dL_law_1882 ?_
      refine kx_iadd hx hb dL_law_1883 ?_
      refine kx_sld (i := (((3 * j : Nat) : Int) + 2)) hx hb hX hbl hbA hS (3 * j + 2) (by omega) (by omega) (by omega) dL_law_1884 ?_
      refine kx_eqi (z2) (hz2.symm) ?_
      refine lv_aload_n hx hb dL_law_1885 rfl (lv_at hl 3 rfl) ?_
      refine kx_ci (vx_runSW (As := [.ref x1, .int (kI ((ln9 : Nat) : Int)), .int (kI (z2)), .ref out]) (rest := []) ⟨hx, hb, hml, hown, hts⟩ (wr_isWithinByRays l hl9 D H x1 ((sl.map (fun a => a.1.1)).head?) hi bu st la mc9 ea F S gap ln9 z2 out go hO_x1 hO_st hO_la hLs9 hLn9 hA_out (by first | assumption | omega) (by first | assumption | omega) (by first | assumption | omega) hG.1 (by first | assumption | omega)) (vx_cwSW 4 hts (lw_SW q2071 q2072 q78 q2073) rfl rfl rfl (by decide +kernel) ⟨Nat.le_of_ble_eq_true rfl, Nat.le_of_ble_eq_true rfl⟩) (kx_ps hK hS hB) rfl rfl hl.1 rfl (lv_room (Nat.le_of_ble_eq_true rfl)) dL_law_1886 ⟨by first | exact Nat.le_of_ble_eq_true rfl | omega | (dsimp only [lwR]; omega) | (show _ ≤ _; omega), by first | exact Nat.le_of_ble_eq_true rfl | omega | (dsimp only [lwR]; omega) | (show _ ≤ _; omega)⟩) hS (fun q _ h => (ge_out q) h) (fun q h => (ge_out q) h) (fun z_6 H_4 locs_1 hz_3 hF_5 hS_2 => ?_)
      have hzf_7 := hF_5.1
      obtain ⟨hv_8, ho_9⟩ := hz_3
      subst z_6
      refine lv_istore (lv' := [(6, .int (kI (0))), (0, .ref b), (1, .ref x1), (2, .ref mm), (3, .ref out), (4, .ref outD), (5, .int (kI ((3 * j : Nat) : Int)))]) hx hb dL_law_1889 hl (by decide) rfl (fun ls hl => ?_)
      refine lv_aload_n hx hb dL_law_1891 rfl (lv_at hl 3 rfl) ?_
      refine lv_aload_n hx hb dL_law_1892 rfl (lv_at hl 1 rfl) ?_
      refine lv_iload hx hb dL_law_1893 (lv_at hl 6 rfl) ?_
      refine kx_iconst hx hb dL_law_1895 ?_
      refine kx_iadd hx hb dL_law_1896 ?_
      refine kx_sld (i := (((3 * j : Nat) : Int) + 1)) hx hb hX hbl hbA hS_2 (3 * j + 1) (by omega) (by omega) (by omega) dL_law_1897 ?_
      refine kx_eqi (((ln9 : Nat) : Int)) (hz1.symm.trans hv1) ?_
      refine lv_aload_n hx hb dL_law_1898 rfl (lv_at hl 1 rfl) ?_
      refine lv_iload hx hb dL_law_1899 (lv_at hl 6 rfl) ?_
      refine kx_iconst hx hb dL_law_1901 ?_
      refine kx_iadd hx hb dL_law_1902 ?_
      refine kx_sld (i := (((3 * j : Nat) : Int) + 2)) hx hb hX hbl hbA hS_2 (3 * j + 2) (by omega) (by omega) (by omega) dL_law_1903 ?_
      refine kx_eqi (z2) (hz2.symm) ?_
      have h_10 := hO_mm.fr hF_5 (n_mm_out)
      have h_11 := hA_ra.fr hF_5 (n_ra_out)
      have h_12 := hA_sa.fr hF_5 (n_sa_out)
      have h_13 := hA_ka.fr hF_5 (n_ka_out)
      have h_14 := hA_ta.fr hF_5 (n_ta_out)
      have ty_mm : ∀ x, x = mm → H_4.size ≤ x ∨ (kTy D H_4 x ∧ c0 ≤ x ∧ x < c1) := fun x h => by rw [h]; exact Or.inr ⟨Or.inl ⟨2, _, by decide, by decide, by decide, h_10⟩, i_mm.1, w_mm⟩
      refine kx_cb (va_runV (As := [.int (kI ((ln9 : Nat) : Int)), .int (kI (z2))]) (rest := []) ⟨hx, hb, hml, hown, hts⟩ (m_X3_isWithinByRays l D H_4 mm ra sa ka ta nh ik t.length th sp9 iw le9 fi9 se9 g S gap ln9 z2 h_10 h_11 (by first | assumption | omega) (by first | assumption | omega) n_mm_ra b_mm (by first | assumption | omega) (by first | assumption | omega)) (cwV 2 hts (lw_V q2556 q2557 q2558 q89 q2559) rfl rfl rfl (by decide +kernel) ⟨Nat.le_of_ble_eq_true rfl, Nat.le_of_ble_eq_true rfl⟩) (kx_pv hK hS_2 hB (kx_rc hK h_10 (C := RX3) (T := TX3) (N := 13) rfl)) rfl rfl hl.1 rfl (lv_room (Nat.le_of_ble_eq_true rfl)) dL_law_1904 ⟨by first | exact Nat.le_of_ble_eq_true rfl | omega | (dsimp only [lwR]; omega) | (show _ ≤ _; omega), by first | exact Nat.le_of_ble_eq_true rfl | omega | (dsimp only [lwR]; omega) | (show _ ≤ _; omega)⟩) hS_2 (fun q _ h => (ge_mm q) h) (fun q h => (ge_mm q) h) (fun z_20 H_18 locs_15 hz_17 hF_19 hS_16 => ?_)
      have hzf_21 := hF_19.1
      obtain ⟨hv_22, ho_23⟩ := hz_17
      subst z_20
      refine lv_istore (lv' := [(7, .int (kI (kb (st_cont S ln9 z2)))), (6, .int (kI (0))), (0, .ref b), (1, .ref x1), (2, .ref mm), (3, .ref out), (4, .ref outD), (5, .int (kI ((3 * j : Nat) : Int)))]) hx hb dL_law_1907 hl (by decide) rfl (fun ls hl => ?_)
      refine lv_aload_n hx hb dL_law_1909 rfl (lv_at hl 4 rfl) ?_
      refine kx_ci0 (va_runV (As := []) (rest := []) ⟨hx, hb, hml, hown, hts⟩ (m_X3_thrown l D H_18 mm ra sa ka ta nh ik t.length 0 sp9 iw le9 fi9 se9 ho_23 ) (cwV 0 hts (lw_V q2278 q2279 q2280 q89 q2281) rfl rfl rfl (by decide +kernel) ⟨Nat.le_of_ble_eq_true rfl, Nat.le_of_ble_eq_true rfl⟩) (kx_pv hK hS_16 hB (kx_rc hK ho_23 (C := RX3) (T := TX3) (N := 13) rfl)) rfl rfl hl.1 rfl (lv_room (Nat.le_of_ble_eq_true rfl)) dL_law_1910 ⟨by first | exact Nat.le_of_ble_eq_true rfl | omega | (dsimp only [lwR]; omega) | (show _ ≤ _; omega), by first | exact Nat.le_of_ble_eq_true rfl | omega | (dsimp only [lwR]; omega) | (show _ ≤ _; omega)⟩) hS_16 (fun z_27 locs_24 hz_26 hS_25 => ?_)
      subst z_27
      refine lv_iload hx hb dL_law_1913 (lv_at hl 1 rfl) ?_
      refine kx_icmp_eq (x := 0) (y := 0) (tgt := 1920) hx hb dL_law_1915 (by decide) (by omega) (by omega) (by omega) (by omega) (fun c_1915_28 => ?_) (fun c_1915_28 => ?_)
      · -- taken at 1915
        refine lv_iload hx hb dL_law_1920 (lv_at hl 1 rfl) ?_
        refine kx_if_ne (x := 0) (tgt := 1944) hx hb dL_law_1922 (by decide) (by omega) (by omega) (fun c_1922_29 => ?_) (fun c_1922_29 => ?_)
        · -- taken at 1922
          exfalso; omega
        · -- not taken at 1922
          refine lv_aload_n hx hb dL_law_1925 rfl (lv_at hl 5 rfl) ?_
          refine kx_iconst hx hb dL_law_1926 ?_
          have h_30 := ho_9.fr hF_19 (n_mm_out.sm)
          refine kx_lald (i := 0) hx hb hK h_30 0 rfl (by decide) (by decide) dL_law_1927 ?_
          refine lv_iload hx hb dL_law_1928 (lv_at hl 0 rfl) ?_
          refine kx_ifz (tgt := 1937) hx hb dL_law_1930 (by decide) (fun cb9 => ?_) (fun cb9 => ?_)
          · -- taken at 1930
            refine kx_lconst0 hx hb dL_law_1937 ?_
            refine kx_lcmpE hx hb (x := ((kup go 0 (kL (kb (st_cont S ln9 z2))))) 0) (y := kL (0)) ((kup_self _ _ _).trans (by first | rfl | (rw [cb9]; rfl))) dL_law_1938 ?_
            refine kx_if_eq (x := 0) (tgt := 1944) hx hb dL_law_1939 (by decide) (by omega) (by omega) (fun c_1939_31 => ?_) (fun c_1939_31 => ?_)
            · -- taken at 1939
              refine lv_goto (tgt := 2493) hx hb dL_law_1944 (by decide) ?_
              have h_32 := h_11.fr hF_19 (n_mm_ra.sm)
              have h_33 := h_12.fr hF_19 (n_mm_sa.sm)
              have h_34 := h_13.fr hF_19 (n_mm_ka.sm)
              have h_35 := h_14.fr hF_19 (n_mm_ta.sm)
              have h_36 := hA_outD.fr hF_5 (n_out_outD.sm)
              have h_37 := h_36.fr hF_19 (n_mm_outD.sm)
              have h_38 := hW.fr hd9 hF_5 (fun x => (to_out x))
              have h_39 := h_38.fr hd9 hF_19 (fun x => (ty_mm x))
              refine W.widen (k := cells + 50000) (n := slots + 228000) (by omega) (by omega) ?_
              have hM9 : kM D H_18 c0 out mm (S, gap) ((sl.map Prod.snd).head?) (hl2.map Prod.snd) t := ⟨ra, sa, ka, ta, _, _, _, _, _, _, _, _, _, _, _, _, ho_23, h_32, h_33, h_34, h_35, hMr, hMh, hMk, hMt, ht60, hMd, hMb, hMi⟩
              exact kk (S, gap) ((sl.map Prod.snd).head?) (hl2.map Prod.snd) t _ _ _ ⟨hS_25, lv_sub hl [2, 3, 4, 5, 6, 7] rfl, h_39, hM9, ⟨_, h_30⟩, ⟨_, h_37⟩, by omega, by omega⟩
            · -- not taken at 1939
              exfalso; omega
          · -- not taken at 1930
            refine kx_lconst1 hx hb dL_law_1933 ?_
            refine lv_goto (tgt := 1938) hx hb dL_law_1934 (by decide) ?_
            refine kx_lcmpE hx hb (x := ((kup go 0 (kL (kb (st_cont S ln9 z2))))) 0) (y := kL (1)) ((kup_self _ _ _).trans (by first | rfl | (rw [cb9]; rfl))) dL_law_1938 ?_
            refine kx_if_eq (x := 0) (tgt := 1944) hx hb dL_law_1939 (by decide) (by omega) (by omega) (fun c_1939_40 => ?_) (fun c_1939_40 => ?_)
            · -- taken at 1939
              refine lv_goto (tgt := 2493) hx hb dL_law_1944 (by decide) ?_
              have h_41 := h_11.fr hF_19 (n_mm_ra.sm)
              have h_42 := h_12.fr hF_19 (n_mm_sa.sm)
              have h_43 := h_13.fr hF_19 (n_mm_ka.sm)
              have h_44 := h_14.fr hF_19 (n_mm_ta.sm)
              have h_45 := hA_outD.fr hF_5 (n_out_outD.sm)
              have h_46 := h_45.fr hF_19 (n_mm_outD.sm)
              have h_47 := hW.fr hd9 hF_5 (fun x => (to_out x))
              have h_48 := h_47.fr hd9 hF_19 (fun x => (ty_mm x))
              refine W.widen (k := cells + 50000) (n := slots + 228000) (by omega) (by omega) ?_
              have hM9 : kM D H_18 c0 out mm (S, gap) ((sl.map Prod.snd).head?) (hl2.map Prod.snd) t := ⟨ra, sa, ka, ta, _, _, _, _, _, _, _, _, _, _, _, _, ho_23, h_41, h_42, h_43, h_44, hMr, hMh, hMk, hMt, ht60, hMd, hMb, hMi⟩
              exact kk (S, gap) ((sl.map Prod.snd).head?) (hl2.map Prod.snd) t _ _ _ ⟨hS_25, lv_sub hl [2, 3, 4, 5, 6, 7] rfl, h_48, hM9, ⟨_, h_30⟩, ⟨_, h_46⟩, by omega, by omega⟩
            · -- not taken at 1939
              exfalso; omega
      · -- not taken at 1915
        exfalso; omega
    · -- hA2
      refine lv_aload_n hx hb dL_law_1872 rfl (lv_at hl 1 rfl) ?_
      refine lv_aload_n hx hb dL_law_1873 rfl (lv_at hl 0 rfl) ?_
      refine lv_iload hx hb dL_law_1874 (lv_at hl 5 rfl) ?_
      refine kx_iconst hx hb dL_law_1876 ?_
      refine kx_iadd hx hb dL_law_1877 ?_
      refine kx_sld (i := (((3 * j : Nat) : Int) + 1)) hx hb hX hbl hbA hS (3 * j + 1) (by omega) (by omega) (by omega) dL_law_1878 ?_
      refine kx_eqi (((ln9 : Nat) : Int)) (hz1.symm.trans hv1) ?_
      refine lv_aload_n hx hb dL_law_1879 rfl (lv_at hl 0 rfl) ?_
      refine lv_iload hx hb dL_law_1880 (lv_at hl 5 rfl) ?_
      refine kx_iconst hx hb dL_law_1882 ?_
      refine kx_iadd hx hb dL_law_1883 ?_
      refine kx_sld (i := (((3 * j : Nat) : Int) + 2)) hx hb hX hbl hbA hS (3 * j + 2) (by omega) (by omega) (by omega) dL_law_1884 ?_
      refine kx_eqi (z2) (hz2.symm) ?_
      refine lv_aload_n hx hb dL_law_1885 rfl (lv_at hl 3 rfl) ?_
      refine kx_ci (vx_runSW (As := [.ref x1, .int (kI ((ln9 : Nat) : Int)), .int (kI (z2)), .ref out]) (rest := []) ⟨hx, hb, hml, hown, hts⟩ (wx_isWithinByRays_p l hl9 D H x1 ((sl.map (fun a => a.1.1)).head?) hi bu st la mc9 ea F S gap ln9 z2 out hO_x1 hO_st hO_la hLs9 hLn9 (by first | assumption | omega) (by first | assumption | omega) (by first | assumption | omega) (by first | assumption | omega)) (vx_cwSW 4 hts (lw_SW q2071 q2072 q78 q2073) rfl rfl rfl (by decide +kernel) ⟨Nat.le_of_ble_eq_true rfl, Nat.le_of_ble_eq_true rfl⟩) (kx_ps hK hS hB) rfl rfl hl.1 rfl (lv_room (Nat.le_of_ble_eq_true rfl)) dL_law_1886 ⟨by first | exact Nat.le_of_ble_eq_true rfl | omega | (dsimp only [lwR]; omega) | (show _ ≤ _; omega), by first | exact Nat.le_of_ble_eq_true rfl | omega | (dsimp only [lwR]; omega) | (show _ ≤ _; omega)⟩) hS (fun q _ h => by have h9 := hS.1; (try dsimp only at h); (try dsimp only); (try simp only [kNW] at h); (try simp only [kNW]); omega) (fun q h => by have h9 := hS.1; (try dsimp only at h); (try dsimp only); (try simp only [kNW] at h); (try simp only [kNW]); omega) (fun z_54 H_52 locs_49 hz_51 hF_53 hS_50 => ?_)
      have hzf_55 := hF_53.1
      have hF_53 := hF_53.nw
      obtain ⟨hv_56, hnw_57⟩ := hz_51
      subst z_54
      refine lv_istore (lv' := [(6, .int (kI (1))), (0, .ref b), (1, .ref x1), (2, .ref mm), (3, .ref out), (4, .ref outD), (5, .int (kI ((3 * j : Nat) : Int)))]) hx hb dL_law_1889 hl (by decide) rfl (fun ls hl => ?_)
      refine lv_aload_n hx hb dL_law_1891 rfl (lv_at hl 3 rfl) ?_
      refine lv_aload_n hx hb dL_law_1892 rfl (lv_at hl 1 rfl) ?_
      refine lv_iload hx hb dL_law_1893 (lv_at hl 6 rfl) ?_
      refine kx_iconst hx hb dL_law_1895 ?_
      refine kx_iadd hx hb dL_law_1896 ?_
      refine kx_sld (i := (((3 * j : Nat) : Int) + 1)) hx hb hX hbl hbA hS_50 (3 * j + 1) (by omega) (by omega) (by omega) dL_law_1897 ?_
      refine kx_eqi (((ln9 : Nat) : Int)) (hz1.symm.trans hv1) ?_
      refine lv_aload_n hx hb dL_law_1898 rfl (lv_at hl 1 rfl) ?_
      refine lv_iload hx hb dL_law_1899 (lv_at hl 6 rfl) ?_
      refine kx_iconst hx hb dL_law_1901 ?_
      refine kx_iadd hx hb dL_law_1902 ?_
      refine kx_sld (i := (((3 * j : Nat) : Int) + 2)) hx hb hX hbl hbA hS_50 (3 * j + 2) (by omega) (by omega) (by omega) dL_law_1903 ?_
      refine kx_eqi (z2) (hz2.symm) ?_
      have h_58 := hO_mm.ex hF_53
      have h_59 := hA_ra.ex hF_53
      have h_60 := hA_sa.ex hF_53
      have h_61 := hA_ka.ex hF_53
      have h_62 := hA_ta.ex hF_53
      have ty_mm : ∀ x, x = mm → H_52.size ≤ x ∨ (kTy D H_52 x ∧ c0 ≤ x ∧ x < c1) := fun x h => by rw [h]; exact Or.inr ⟨Or.inl ⟨2, _, by decide, by decide, by decide, h_58⟩, i_mm.1, w_mm⟩
      refine kx_cb (va_runV (As := [.int (kI ((ln9 : Nat) : Int)), .int (kI (z2))]) (rest := []) ⟨hx, hb, hml, hown, hts⟩ (m_X3_isWithinByRays_no l D H_52 mm ra sa ka ta nh ik t.length th sp9 iw le9 fi9 se9 g S gap (((ln9 : Nat) : Int)) z2 h_58 h_59 (by first | assumption | omega) (by first | assumption | omega) n_mm_ra b_mm (by first | assumption | omega) (by first | assumption | omega) (fun h => hA2 h.2)) (cwV 2 hts (lw_V q2556 q2557 q2558 q89 q2559) rfl rfl rfl (by decide +kernel) ⟨Nat.le_of_ble_eq_true rfl, Nat.le_of_ble_eq_true rfl⟩) (kx_pv hK hS_50 hB (kx_rc hK h_58 (C := RX3) (T := TX3) (N := 13) rfl)) rfl rfl hl.1 rfl (lv_room (Nat.le_of_ble_eq_true rfl)) dL_law_1904 ⟨by first | exact Nat.le_of_ble_eq_true rfl | omega | (dsimp only [lwR]; omega) | (show _ ≤ _; omega), by first | exact Nat.le_of_ble_eq_true rfl | omega | (dsimp only [lwR]; omega) | (show _ ≤ _; omega)⟩) hS_50 (fun q _ h => (ge_mm q) h) (fun q h => (ge_mm q) h) (fun z_68 H_66 locs_63 hz_65 hF_67 hS_64 => ?_)
      have hzf_69 := hF_67.1
      obtain ⟨hv_70, ho_71⟩ := hz_65
      subst z_68
      refine lv_istore (lv' := [(7, .int (kI (kb (false)))), (6, .int (kI (1))), (0, .ref b), (1, .ref x1), (2, .ref mm), (3, .ref out), (4, .ref outD), (5, .int (kI ((3 * j : Nat) : Int)))]) hx hb dL_law_1907 hl (by decide) rfl (fun ls hl => ?_)
      refine lv_aload_n hx hb dL_law_1909 rfl (lv_at hl 4 rfl) ?_
      refine kx_ci0 (va_runV (As := []) (rest := []) ⟨hx, hb, hml, hown, hts⟩ (m_X3_thrown l D H_66 mm ra sa ka ta nh ik t.length 1 sp9 iw le9 fi9 se9 ho_71 ) (cwV 0 hts (lw_V q2278 q2279 q2280 q89 q2281) rfl rfl rfl (by decide +kernel) ⟨Nat.le_of_ble_eq_true rfl, Nat.le_of_ble_eq_true rfl⟩) (kx_pv hK hS_64 hB (kx_rc hK ho_71 (C := RX3) (T := TX3) (N := 13) rfl)) rfl rfl hl.1 rfl (lv_room (Nat.le_of_ble_eq_true rfl)) dL_law_1910 ⟨by first | exact Nat.le_of_ble_eq_true rfl | omega | (dsimp only [lwR]; omega) | (show _ ≤ _; omega), by first | exact Nat.le_of_ble_eq_true rfl | omega | (dsimp only [lwR]; omega) | (show _ ≤ _; omega)⟩) hS_64 (fun z_75 locs_72 hz_74 hS_73 => ?_)
      subst z_75
      refine lv_iload hx hb dL_law_1913 (lv_at hl 1 rfl) ?_
      refine kx_icmp_eq (x := 1) (y := 1) (tgt := 1920) hx hb dL_law_1915 (by decide) (by omega) (by omega) (by omega) (by omega) (fun c_1915_76 => ?_) (fun c_1915_76 => ?_)
      · -- taken at 1915
        refine lv_iload hx hb dL_law_1920 (lv_at hl 1 rfl) ?_
        refine kx_if_ne (x := 1) (tgt := 1944) hx hb dL_law_1922 (by decide) (by omega) (by omega) (fun c_1922_77 => ?_) (fun c_1922_77 => ?_)
        · -- taken at 1922
          refine lv_goto (tgt := 2493) hx hb dL_law_1944 (by decide) ?_
          have h_78 := h_59.fr hF_67 (n_mm_ra.sm)
          have h_79 := h_60.fr hF_67 (n_mm_sa.sm)
          have h_80 := h_61.fr hF_67 (n_mm_ka.sm)
          have h_81 := h_62.fr hF_67 (n_mm_ta.sm)
          have h_82 := hA_out.ex hF_53
          have h_83 := h_82.fr hF_67 (n_mm_out.sm)
          have h_84 := hA_outD.ex hF_53
          have h_85 := h_84.fr hF_67 (n_mm_outD.sm)
          have h_86 := hW.ex hd9 hF_53
          have h_87 := h_86.fr hd9 hF_67 (fun x => (ty_mm x))
          refine W.widen (k := cells + 50000) (n := slots + 228000) (by omega) (by omega) ?_
          have hM9 : kM D H_66 c0 out mm (S, gap) ((sl.map Prod.snd).head?) (hl2.map Prod.snd) t := ⟨ra, sa, ka, ta, _, _, _, _, _, _, _, _, _, _, _, _, ho_71, h_78, h_79, h_80, h_81, hMr, hMh, hMk, hMt, ht60, hMd, hMb, hMi⟩
          exact kk (S, gap) ((sl.map Prod.snd).head?) (hl2.map Prod.snd) t _ _ _ ⟨hS_73, lv_sub hl [2, 3, 4, 5, 6, 7] rfl, h_87, hM9, ⟨_, h_83⟩, ⟨_, h_85⟩, by omega, by omega⟩
        · -- not taken at 1922
          exfalso; omega
      · -- not taken at 1915
        exfalso; omega
  · -- hA
    refine lv_aload_n hx hb dL_law_1872 rfl (lv_at hl 1 rfl) ?_
    refine lv_aload_n hx hb dL_law_1873 rfl (lv_at hl 0 rfl) ?_
    refine lv_iload hx hb dL_law_1874 (lv_at hl 5 rfl) ?_
    refine kx_iconst hx hb dL_law_1876 ?_
    refine kx_iadd hx hb dL_law_1877 ?_
    refine kx_sld (i := (((3 * j : Nat) : Int) + 1)) hx hb hX hbl hbA hS (3 * j + 1) (by omega) (by omega) (by omega) dL_law_1878 ?_
    refine kx_eqi (z1) (hz1.symm) ?_
    refine lv_aload_n hx hb dL_law_1879 rfl (lv_at hl 0 rfl) ?_
    refine lv_iload hx hb dL_law_1880 (lv_at hl 5 rfl) ?_
    refine kx_iconst hx hb dL_law_1882 ?_
    refine kx_iadd hx hb dL_law_1883 ?_
    refine kx_sld (i := (((3 * j : Nat) : Int) + 2)) hx hb hX hbl hbA hS (3 * j + 2) (by omega) (by omega) (by omega) dL_law_1884 ?_
    refine kx_eqi (z2) (hz2.symm) ?_
    refine lv_aload_n hx hb dL_law_1885 rfl (lv_at hl 3 rfl) ?_
    refine kx_ci (vx_runSW (As := [.ref x1, .int (kI (z1)), .int (kI (z2)), .ref out]) (rest := []) ⟨hx, hb, hml, hown, hts⟩ (wx_isWithinByRays l hl9 D H x1 ((sl.map (fun a => a.1.1)).head?) hi bu st la mc9 ea F S gap z1 z2 out hO_x1 hO_st hO_la hLs9 hLn9 (by first | assumption | omega) (by first | assumption | omega) (by first | assumption | omega)) (vx_cwSW 4 hts (lw_SW q2071 q2072 q78 q2073) rfl rfl rfl (by decide +kernel) ⟨Nat.le_of_ble_eq_true rfl, Nat.le_of_ble_eq_true rfl⟩) (kx_ps hK hS hB) rfl rfl hl.1 rfl (lv_room (Nat.le_of_ble_eq_true rfl)) dL_law_1886 ⟨by first | exact Nat.le_of_ble_eq_true rfl | omega | (dsimp only [lwR]; omega) | (show _ ≤ _; omega), by first | exact Nat.le_of_ble_eq_true rfl | omega | (dsimp only [lwR]; omega) | (show _ ≤ _; omega)⟩) hS (fun q _ h => by have h9 := hS.1; (try dsimp only at h); (try dsimp only); (try simp only [kNW] at h); (try simp only [kNW]); omega) (fun q h => by have h9 := hS.1; (try dsimp only at h); (try dsimp only); (try simp only [kNW] at h); (try simp only [kNW]); omega) (fun z_93 H_91 locs_88 hz_90 hF_92 hS_89 => ?_)
    have hzf_94 := hF_92.1
    have hF_92 := hF_92.nw
    obtain ⟨hv_95, hnw_96⟩ := hz_90
    subst z_93
    refine lv_istore (lv' := [(6, .int (kI (1))), (0, .ref b), (1, .ref x1), (2, .ref mm), (3, .ref out), (4, .ref outD), (5, .int (kI ((3 * j : Nat) : Int)))]) hx hb dL_law_1889 hl (by decide) rfl (fun ls hl => ?_)
    refine lv_aload_n hx hb dL_law_1891 rfl (lv_at hl 3 rfl) ?_
    refine lv_aload_n hx hb dL_law_1892 rfl (lv_at hl 1 rfl) ?_
    refine lv_iload hx hb dL_law_1893 (lv_at hl 6 rfl) ?_
    refine kx_iconst hx hb dL_law_1895 ?_
    refine kx_iadd hx hb dL_law_1896 ?_
    refine kx_sld (i := (((3 * j : Nat) : Int) + 1)) hx hb hX hbl hbA hS_89 (3 * j + 1) (by omega) (by omega) (by omega) dL_law_1897 ?_
    refine kx_eqi (z1) (hz1.symm) ?_
    refine lv_aload_n hx hb dL_law_1898 rfl (lv_at hl 1 rfl) ?_
    refine lv_iload hx hb dL_law_1899 (lv_at hl 6 rfl) ?_
    refine kx_iconst hx hb dL_law_1901 ?_
    refine kx_iadd hx hb dL_law_1902 ?_
    refine kx_sld (i := (((3 * j : Nat) : Int) + 2)) hx hb hX hbl hbA hS_89 (3 * j + 2) (by omega) (by omega) (by omega) dL_law_1903 ?_
    refine kx_eqi (z2) (hz2.symm) ?_
    have h_97 := hO_mm.ex hF_92
    have h_98 := hA_ra.ex hF_92
    have h_99 := hA_sa.ex hF_92
    have h_100 := hA_ka.ex hF_92
    have h_101 := hA_ta.ex hF_92
    have ty_mm : ∀ x, x = mm → H_91.size ≤ x ∨ (kTy D H_91 x ∧ c0 ≤ x ∧ x < c1) := fun x h => by rw [h]; exact Or.inr ⟨Or.inl ⟨2, _, by decide, by decide, by decide, h_97⟩, i_mm.1, w_mm⟩
    refine kx_cb (va_runV (As := [.int (kI (z1)), .int (kI (z2))]) (rest := []) ⟨hx, hb, hml, hown, hts⟩ (m_X3_isWithinByRays_no l D H_91 mm ra sa ka ta nh ik t.length th sp9 iw le9 fi9 se9 g S gap z1 z2 h_97 h_98 (by first | assumption | omega) (by first | assumption | omega) n_mm_ra b_mm (by first | assumption | omega) (by first | assumption | omega) (fun h => hA h.1)) (cwV 2 hts (lw_V q2556 q2557 q2558 q89 q2559) rfl rfl rfl (by decide +kernel) ⟨Nat.le_of_ble_eq_true rfl, Nat.le_of_ble_eq_true rfl⟩) (kx_pv hK hS_89 hB (kx_rc hK h_97 (C := RX3) (T := TX3) (N := 13) rfl)) rfl rfl hl.1 rfl (lv_room (Nat.le_of_ble_eq_true rfl)) dL_law_1904 ⟨by first | exact Nat.le_of_ble_eq_true rfl | omega | (dsimp only [lwR]; omega) | (show _ ≤ _; omega), by first | exact Nat.le_of_ble_eq_true rfl | omega | (dsimp only [lwR]; omega) | (show _ ≤ _; omega)⟩) hS_89 (fun q _ h => (ge_mm q) h) (fun q h => (ge_mm q) h) (fun z_107 H_105 locs_102 hz_104 hF_106 hS_103 => ?_)
    have hzf_108 := hF_106.1
    obtain ⟨hv_109, ho_110⟩ := hz_104
    subst z_107
    refine lv_istore (lv' := [(7, .int (kI (kb (false)))), (6, .int (kI (1))), (0, .ref b), (1, .ref x1), (2, .ref mm), (3, .ref out), (4, .ref outD), (5, .int (kI ((3 * j : Nat) : Int)))]) hx hb dL_law_1907 hl (by decide) rfl (fun ls hl => ?_)
    refine lv_aload_n hx hb dL_law_1909 rfl (lv_at hl 4 rfl) ?_
    refine kx_ci0 (va_runV (As := []) (rest := []) ⟨hx, hb, hml, hown, hts⟩ (m_X3_thrown l D H_105 mm ra sa ka ta nh ik t.length 1 sp9 iw le9 fi9 se9 ho_110 ) (cwV 0 hts (lw_V q2278 q2279 q2280 q89 q2281) rfl rfl rfl (by decide +kernel) ⟨Nat.le_of_ble_eq_true rfl, Nat.le_of_ble_eq_true rfl⟩) (kx_pv hK hS_103 hB (kx_rc hK ho_110 (C := RX3) (T := TX3) (N := 13) rfl)) rfl rfl hl.1 rfl (lv_room (Nat.le_of_ble_eq_true rfl)) dL_law_1910 ⟨by first | exact Nat.le_of_ble_eq_true rfl | omega | (dsimp only [lwR]; omega) | (show _ ≤ _; omega), by first | exact Nat.le_of_ble_eq_true rfl | omega | (dsimp only [lwR]; omega) | (show _ ≤ _; omega)⟩) hS_103 (fun z_114 locs_111 hz_113 hS_112 => ?_)
    subst z_114
    refine lv_iload hx hb dL_law_1913 (lv_at hl 1 rfl) ?_
    refine kx_icmp_eq (x := 1) (y := 1) (tgt := 1920) hx hb dL_law_1915 (by decide) (by omega) (by omega) (by omega) (by omega) (fun c_1915_115 => ?_) (fun c_1915_115 => ?_)
    · -- taken at 1915
      refine lv_iload hx hb dL_law_1920 (lv_at hl 1 rfl) ?_
      refine kx_if_ne (x := 1) (tgt := 1944) hx hb dL_law_1922 (by decide) (by omega) (by omega) (fun c_1922_116 => ?_) (fun c_1922_116 => ?_)
      · -- taken at 1922
        refine lv_goto (tgt := 2493) hx hb dL_law_1944 (by decide) ?_
        have h_117 := h_98.fr hF_106 (n_mm_ra.sm)
        have h_118 := h_99.fr hF_106 (n_mm_sa.sm)
        have h_119 := h_100.fr hF_106 (n_mm_ka.sm)
        have h_120 := h_101.fr hF_106 (n_mm_ta.sm)
        have h_121 := hA_out.ex hF_92
        have h_122 := h_121.fr hF_106 (n_mm_out.sm)
        have h_123 := hA_outD.ex hF_92
        have h_124 := h_123.fr hF_106 (n_mm_outD.sm)
        have h_125 := hW.ex hd9 hF_92
        have h_126 := h_125.fr hd9 hF_106 (fun x => (ty_mm x))
        refine W.widen (k := cells + 50000) (n := slots + 228000) (by omega) (by omega) ?_
        have hM9 : kM D H_105 c0 out mm (S, gap) ((sl.map Prod.snd).head?) (hl2.map Prod.snd) t := ⟨ra, sa, ka, ta, _, _, _, _, _, _, _, _, _, _, _, _, ho_110, h_117, h_118, h_119, h_120, hMr, hMh, hMk, hMt, ht60, hMd, hMb, hMi⟩
        exact kk (S, gap) ((sl.map Prod.snd).head?) (hl2.map Prod.snd) t _ _ _ ⟨hS_112, lv_sub hl [2, 3, 4, 5, 6, 7] rfl, h_126, hM9, ⟨_, h_122⟩, ⟨_, h_124⟩, by omega, by omega⟩
      · -- not taken at 1922
        exfalso; omega
    · -- not taken at 1915
      exfalso; omega

set_option maxHeartbeats 8000000 in
set_option maxRecDepth 100000 in
theorem lc_isWithinBySpreading {p : Program} {e : Env} {s : State} {m : MethodId} {below : List Frame} {meth : Method} {c : Code} {l : Launch} {D : kG} {b L c0 c1 x1 mm out outD : Nat} {xs : Nat → Int32} {Q : State → Prop} (C0 : lwC D p l s m meth c b L c0 c1 out outD xs) {j : Nat} (hj : 3 * j + 3 ≤ L) {S : Ls} {gap : Int} {sn : Option Sg} {hs : List Sg} {t : List Int} {H : Heap} {locs : List Loc} {ls : Array Slot} (I0 : lwI D s b c0 c1 x1 mm out outD j j (S, gap) sn hs t H locs ls) {cells slots : Nat} (hcl : cells + 50000 ≤ 1200144) (hsl9 : slots + 228000 ≤ 5496058) (kk : ∀ (σ : Sg) (sn : Option Sg) (hs : List Sg) (t : List Int) (H : Heap) (locs : List Loc) (ls : Array Slot), lwI D s b c0 c1 x1 mm out outD j (j + 1) σ sn hs t H locs ls → W p l e lwR s m #[Value.ref b] below meth c H locs (cells + 50000) (slots + 228000) Q (F0 m 2493 ls [])) : W p l e lwR s m #[Value.ref b] below meth c H locs cells slots Q (F0 m 1947 ls []) := by
  obtain ⟨hx, hb, hml, hown, hts, hlk, hK, hl9, hX, hbl, hbs, hL72, hc0, hco, hod, hdc⟩ := C0
  obtain ⟨hS, hl, hW, hM, ⟨go, hA_out⟩, ⟨gd, hA_outD⟩, hc1, htl⟩ := I0
  have hB : ∀ q, (kNW s.heap) q → kBase D ≤ q := fun q h => Nat.le_trans hK.size h
  have hbA : ¬ (kNW s.heap) b := fun h => by have h9 : s.heap.size ≤ b := h; omega
  have hd9 := hK.dis
  have hxE : ¬ kBase D ≤ D.2.2.2 2 := hK.tE.out
  obtain ⟨z1, hz1⟩ : ∃ z, z = (xs (3 * j + 1)).toInt := ⟨_, rfl⟩
  obtain ⟨z2, hz2⟩ : ∃ z, z = (xs (3 * j + 2)).toInt := ⟨_, rfl⟩
  have hr1 : -2147483648 ≤ z1 ∧ z1 ≤ 2147483647 := by rw [hz1]; exact i32r _
  have hr2 : -2147483648 ≤ z2 ∧ z2 ≤ 2147483647 := by rw [hz2]; exact i32r _
  obtain ⟨⟨st, la, ea, F⟩, sl, hl2, hi, es, bu, vb, hO_x1, hDq, hTx, hX5, hev, hAl, hDj, hPw, hsl, hsn, hhs⟩ := id hW
  subst hsn
  subst hhs
  obtain ⟨ra, sa, ka, ta, nh, ik, th, sp9, iw, le9, fi9, se9, g, gs, gk, gt, hO_mm, hA_ra, hA_sa, hA_ka, hA_ta, hMr, hMh, hMk, hMt, ht60, hMd, hMb, hMi⟩ := id hM
  have hMr : MRow g S gap := hMr
  have h0 := hAl _ List.mem_cons_self
  have hP_kState_st : kState D H st la ea gap S F := h0.1
  have hok : LsOK S gap := h0.2.1
  have hG : StG S := h0.2.2.1
  have hL8 : S.length ≤ 8 := hok.1
  have hgp := hok.2.1
  have hO_x1 : kO D H x1 0 [.ref st, va_rf ((sl.map (fun a => a.1.1)).head?), .ref hi, .ref bu] := hO_x1
  have hOw : ∀ q, kOwn D st la ea F S.length q → q ∉ [x1, hi, es, bu, vb] ∧ (q < c0 ∨ c1 ≤ q) := h0.2.2.2
  have hev : Hd (es ≠ vb) := hev
  have io_x1 : ∀ x, c0 ≤ x → x < c1 → x ≠ x1 := fun x => out_of (hX5 x1 (by simp)).2
  have io_hi : ∀ x, c0 ≤ x → x < c1 → x ≠ hi := fun x => out_of (hX5 hi (by simp)).2
  have io_es : ∀ x, c0 ≤ x → x < c1 → x ≠ es := fun x => out_of (hX5 es (by simp)).2
  have io_bu : ∀ x, c0 ≤ x → x < c1 → x ≠ bu := fun x => out_of (hX5 bu (by simp)).2
  have io_vb : ∀ x, c0 ≤ x → x < c1 → x ≠ vb := fun x => out_of (hX5 vb (by simp)).2
  have b_x1 := (hX5 x1 (by simp)).1
  have b_hi := (hX5 hi (by simp)).1
  have b_es := (hX5 es (by simp)).1
  have b_bu := (hX5 bu (by simp)).1
  have b_vb := (hX5 vb (by simp)).1
  obtain ⟨⟨⟨n1, n2, n3, n4⟩, n5, n6, n7⟩, n8, n9, n10⟩ := hMd
  have n_mm_ra : Hd (mm ≠ ra) := n1
  have n_mm_sa : Hd (mm ≠ sa) := n2
  have n_mm_ka : Hd (mm ≠ ka) := n3
  have n_mm_ta : Hd (mm ≠ ta) := n4
  have n_ra_sa : Hd (ra ≠ sa) := n5
  have n_ra_ka : Hd (ra ≠ ka) := n6
  have n_ra_ta : Hd (ra ≠ ta) := n7
  have n_sa_ka : Hd (sa ≠ ka) := n8
  have n_sa_ta : Hd (sa ≠ ta) := n9
  have n_ka_ta : Hd (ka ≠ ta) := n10
  have hMd : Hd (((mm ≠ ra ∧ mm ≠ sa ∧ mm ≠ ka ∧ mm ≠ ta) ∧ ra ≠ sa ∧ ra ≠ ka ∧ ra ≠ ta) ∧ sa ≠ ka ∧ sa ≠ ta ∧ ka ≠ ta) := ⟨⟨⟨n1, n2, n3, n4⟩, n5, n6, n7⟩, n8, n9, n10⟩
  clear n1 n2 n3 n4 n5 n6 n7 n8 n9 n10
  obtain ⟨b_mm, b_ra, b_sa, b_ka, b_ta⟩ := id hMb
  obtain ⟨i_mm, i_ra, i_sa, i_ka, i_ta⟩ := id hMi
  have b_out : kBase D ≤ out := by omega
  have hcc : c0 ≤ c1 := by omega
  have w_mm : mm < c1 := by omega
  have n_mm_out : Hd (mm ≠ out) := Nat.ne_of_lt i_mm.2
  have n_mm_outD : Hd (mm ≠ outD) := Nat.ne_of_lt (Nat.lt_trans i_mm.2 hod)
  have w_ra : ra < c1 := by omega
  have n_ra_out : Hd (ra ≠ out) := Nat.ne_of_lt i_ra.2
  have n_ra_outD : Hd (ra ≠ outD) := Nat.ne_of_lt (Nat.lt_trans i_ra.2 hod)
  have w_sa : sa < c1 := by omega
  have n_sa_out : Hd (sa ≠ out) := Nat.ne_of_lt i_sa.2
  have n_sa_outD : Hd (sa ≠ outD) := Nat.ne_of_lt (Nat.lt_trans i_sa.2 hod)
  have w_ka : ka < c1 := by omega
  have n_ka_out : Hd (ka ≠ out) := Nat.ne_of_lt i_ka.2
  have n_ka_outD : Hd (ka ≠ outD) := Nat.ne_of_lt (Nat.lt_trans i_ka.2 hod)
  have w_ta : ta < c1 := by omega
  have n_ta_out : Hd (ta ≠ out) := Nat.ne_of_lt i_ta.2
  have n_ta_outD : Hd (ta ≠ outD) := Nat.ne_of_lt (Nat.lt_trans i_ta.2 hod)
  have ge_mm : ∀ q, q = mm → kNW s.heap q := fun q h => by rw [h]; show s.heap.size ≤ mm; omega
  have ge_ra : ∀ q, q = ra → kNW s.heap q := fun q h => by rw [h]; show s.heap.size ≤ ra; omega
  have ge_sa : ∀ q, q = sa → kNW s.heap q := fun q h => by rw [h]; show s.heap.size ≤ sa; omega
  have ge_ka : ∀ q, q = ka → kNW s.heap q := fun q h => by rw [h]; show s.heap.size ≤ ka; omega
  have ge_ta : ∀ q, q = ta → kNW s.heap q := fun q h => by rw [h]; show s.heap.size ≤ ta; omega
  have ge_out : ∀ q, q = out → kNW s.heap q := fun q h => by rw [h]; show s.heap.size ≤ out; omega
  have n_out_outD : Hd (out ≠ outD) := Nat.ne_of_lt hod
  have w_out : out < c1 := by omega
  have w_outD : outD < c1 := hdc
  have i_outD : c0 ≤ outD := by omega
  have htyo : kTy D H out := Or.inr ⟨2, _, by decide, hA_out⟩
  have htyd : kTy D H outD := Or.inr ⟨3, _, by decide, hA_outD⟩
  have to_out : ∀ x, x = out → H.size ≤ x ∨ (kTy D H x ∧ c0 ≤ x ∧ x < c1) := fun x h => by rw [h]; exact Or.inr ⟨htyo, hco, w_out⟩
  have to_outD : ∀ x, x = outD → H.size ≤ x ∨ (kTy D H x ∧ c0 ≤ x ∧ x < c1) := fun x h => by rw [h]; exact Or.inr ⟨htyd, i_outD, w_outD⟩
  obtain ⟨⟨hO_st, mc9, hO_la⟩, hLs9, hLn9, hF9, hDs9, hb1, hb2, hb3⟩ := id hP_kState_st
  by_cases hA : 0 ≤ z1 ∧ z1 < (S.length : Int)
  · -- hA
    obtain ⟨ln9, hv1⟩ : ∃ k : Nat, z1 = (k : Int) := ⟨z1.toNat, by omega⟩
    have hln : ln9 < S.length := by omega
    have hLn := hok.ln hln
    by_cases hA2 : 0 ≤ z2 ∧ z2 ≤ 383
    · -- hA2
      refine lv_aload_n hx hb dL_law_1947 rfl (lv_at hl 1 rfl) ?_
      refine lv_aload_n hx hb dL_law_1948 rfl (lv_at hl 0 rfl) ?_
      refine lv_iload hx hb dL_law_1949 (lv_at hl 5 rfl) ?_
      refine kx_iconst hx hb dL_law_1951 ?_
      refine kx_iadd hx hb dL_law_1952 ?_
      refine kx_sld (i := (((3 * j : Nat) : Int) + 1)) hx hb hX hbl hbA hS (3 * j + 1) (by omega) (by omega) (by omega) dL_law_1953 ?_
      refine kx_eqi (((ln9 : Nat) : Int)) (hz1.symm.trans hv1) ?_
      refine lv_aload_n hx hb dL_law_1954 rfl (lv_at hl 0 rfl) ?_
      refine lv_iload hx hb dL_law_1955 (lv_at hl 5 rfl) ?_
      refine kx_iconst hx hb dL_law_1957 ?_
      refine kx_iadd hx hb dL_law_1958 ?_
      refine kx_sld (i := (((3 * j : Nat) : Int) + 2)) hx hb hX hbl hbA hS (3 * j + 2) (by omega) (by omega) (by omega) dL_law_1959 ?_
      refine kx_eqi (z2) (hz2.symm) ?_
      refine lv_aload_n hx hb dL_law_1960 rfl (lv_at hl 3 rfl) ?_
      refine kx_ci (vx_runSW (As := [.ref x1, .int (kI ((ln9 : Nat) : Int)), .int (kI (z2)), .ref out]) (rest := []) ⟨hx, hb, hml, hown, hts⟩ (wr_isWithinBySpreading l hl9 D H x1 ((sl.map (fun a => a.1.1)).head?) hi bu st la mc9 ea F S gap ln9 z2 out go hO_x1 hO_st hO_la hLs9 hLn9 hA_out (by first | assumption | omega) (by first | assumption | omega) (by first | assumption | omega) hG.1 (hG.spr hok ln9 hln) (by first | assumption | omega)) (vx_cwSW 4 hts (lw_SW q2086 q2087 q78 q2088) rfl rfl rfl (by decide +kernel) ⟨Nat.le_of_ble_eq_true rfl, Nat.le_of_ble_eq_true rfl⟩) (kx_ps hK hS hB) rfl rfl hl.1 rfl (lv_room (Nat.le_of_ble_eq_true rfl)) dL_law_1961 ⟨by first | exact Nat.le_of_ble_eq_true rfl | omega | (dsimp only [lwR]; omega) | (show _ ≤ _; omega), by first | exact Nat.le_of_ble_eq_true rfl | omega | (dsimp only [lwR]; omega) | (show _ ≤ _; omega)⟩) hS (fun q _ h => (fun h => Or.elim h (ge_out q) (fun h => Nat.le_trans hS.1 h)) h) (fun q h => (fun h => Or.elim h (ge_out q) (fun h => Nat.le_trans hS.1 h)) h) (fun z_6 H_4 locs_1 hz_3 hF_5 hS_2 => ?_)
      have hzf_7 := hF_5.1
      obtain ⟨hv_8, ho_9⟩ := hz_3
      subst z_6
      refine lv_istore (lv' := [(6, .int (kI (0))), (0, .ref b), (1, .ref x1), (2, .ref mm), (3, .ref out), (4, .ref outD), (5, .int (kI ((3 * j : Nat) : Int)))]) hx hb dL_law_1964 hl (by decide) rfl (fun ls hl => ?_)
      refine lv_aload_n hx hb dL_law_1966 rfl (lv_at hl 3 rfl) ?_
      refine lv_aload_n hx hb dL_law_1967 rfl (lv_at hl 1 rfl) ?_
      refine lv_iload hx hb dL_law_1968 (lv_at hl 6 rfl) ?_
      refine kx_iconst hx hb dL_law_1970 ?_
      refine kx_iadd hx hb dL_law_1971 ?_
      refine kx_sld (i := (((3 * j : Nat) : Int) + 1)) hx hb hX hbl hbA hS_2 (3 * j + 1) (by omega) (by omega) (by omega) dL_law_1972 ?_
      refine kx_eqi (((ln9 : Nat) : Int)) (hz1.symm.trans hv1) ?_
      refine lv_aload_n hx hb dL_law_1973 rfl (lv_at hl 1 rfl) ?_
      refine lv_iload hx hb dL_law_1974 (lv_at hl 6 rfl) ?_
      refine kx_iconst hx hb dL_law_1976 ?_
      refine kx_iadd hx hb dL_law_1977 ?_
      refine kx_sld (i := (((3 * j : Nat) : Int) + 2)) hx hb hX hbl hbA hS_2 (3 * j + 2) (by omega) (by omega) (by omega) dL_law_1978 ?_
      refine kx_eqi (z2) (hz2.symm) ?_
      have h_10 := hO_mm.fr hF_5 (fun h => Or.elim h (n_mm_out) (fun h => Nat.not_le_of_gt hO_mm.lt h))
      have h_11 := hA_ra.fr hF_5 (fun h => Or.elim h (n_ra_out) (fun h => Nat.not_le_of_gt hA_ra.lt h))
      have h_12 := hA_sa.fr hF_5 (fun h => Or.elim h (n_sa_out) (fun h => Nat.not_le_of_gt hA_sa.lt h))
      have h_13 := hA_ka.fr hF_5 (fun h => Or.elim h (n_ka_out) (fun h => Nat.not_le_of_gt hA_ka.lt h))
      have h_14 := hA_ta.fr hF_5 (fun h => Or.elim h (n_ta_out) (fun h => Nat.not_le_of_gt hA_ta.lt h))
      have ty_mm : ∀ x, x = mm → H_4.size ≤ x ∨ (kTy D H_4 x ∧ c0 ≤ x ∧ x < c1) := fun x h => by rw [h]; exact Or.inr ⟨Or.inl ⟨2, _, by decide, by decide, by decide, h_10⟩, i_mm.1, w_mm⟩
      refine kx_cb (va_runV (As := [.int (kI ((ln9 : Nat) : Int)), .int (kI (z2))]) (rest := []) ⟨hx, hb, hml, hown, hts⟩ (m_X3_isWithinBySpreading l D H_4 mm ra sa ka ta nh ik t.length th sp9 iw le9 fi9 se9 g S gap ln9 z2 h_10 h_11 (by first | assumption | omega) (by first | assumption | omega) n_mm_ra b_mm (by first | assumption | omega) (by first | assumption | omega)) (cwV 2 hts (lw_V q2564 q2565 q2566 q89 q2567) rfl rfl rfl (by decide +kernel) ⟨Nat.le_of_ble_eq_true rfl, Nat.le_of_ble_eq_true rfl⟩) (kx_pv hK hS_2 hB (kx_rc hK h_10 (C := RX3) (T := TX3) (N := 13) rfl)) rfl rfl hl.1 rfl (lv_room (Nat.le_of_ble_eq_true rfl)) dL_law_1979 ⟨by first | exact Nat.le_of_ble_eq_true rfl | omega | (dsimp only [lwR]; omega) | (show _ ≤ _; omega), by first | exact Nat.le_of_ble_eq_true rfl | omega | (dsimp only [lwR]; omega) | (show _ ≤ _; omega)⟩) hS_2 (fun q _ h => (ge_mm q) h) (fun q h => (ge_mm q) h) (fun z_20 H_18 locs_15 hz_17 hF_19 hS_16 => ?_)
      have hzf_21 := hF_19.1
      obtain ⟨hv_22, ho_23⟩ := hz_17
      subst z_20
      refine lv_istore (lv' := [(7, .int (kI (kb (st_cont S ln9 z2)))), (6, .int (kI (0))), (0, .ref b), (1, .ref x1), (2, .ref mm), (3, .ref out), (4, .ref outD), (5, .int (kI ((3 * j : Nat) : Int)))]) hx hb dL_law_1982 hl (by decide) rfl (fun ls hl => ?_)
      refine lv_aload_n hx hb dL_law_1984 rfl (lv_at hl 4 rfl) ?_
      refine kx_ci0 (va_runV (As := []) (rest := []) ⟨hx, hb, hml, hown, hts⟩ (m_X3_thrown l D H_18 mm ra sa ka ta nh ik t.length 0 sp9 iw le9 fi9 se9 ho_23 ) (cwV 0 hts (lw_V q2278 q2279 q2280 q89 q2281) rfl rfl rfl (by decide +kernel) ⟨Nat.le_of_ble_eq_true rfl, Nat.le_of_ble_eq_true rfl⟩) (kx_pv hK hS_16 hB (kx_rc hK ho_23 (C := RX3) (T := TX3) (N := 13) rfl)) rfl rfl hl.1 rfl (lv_room (Nat.le_of_ble_eq_true rfl)) dL_law_1985 ⟨by first | exact Nat.le_of_ble_eq_true rfl | omega | (dsimp only [lwR]; omega) | (show _ ≤ _; omega), by first | exact Nat.le_of_ble_eq_true rfl | omega | (dsimp only [lwR]; omega) | (show _ ≤ _; omega)⟩) hS_16 (fun z_27 locs_24 hz_26 hS_25 => ?_)
      subst z_27
      refine lv_iload hx hb dL_law_1988 (lv_at hl 1 rfl) ?_
      refine kx_icmp_eq (x := 0) (y := 0) (tgt := 1995) hx hb dL_law_1990 (by decide) (by omega) (by omega) (by omega) (by omega) (fun c_1990_28 => ?_) (fun c_1990_28 => ?_)
      · -- taken at 1990
        refine lv_iload hx hb dL_law_1995 (lv_at hl 1 rfl) ?_
        refine kx_if_ne (x := 0) (tgt := 2019) hx hb dL_law_1997 (by decide) (by omega) (by omega) (fun c_1997_29 => ?_) (fun c_1997_29 => ?_)
        · -- taken at 1997
          exfalso; omega
        · -- not taken at 1997
          refine lv_aload_n hx hb dL_law_2000 rfl (lv_at hl 5 rfl) ?_
          refine kx_iconst hx hb dL_law_2001 ?_
          have h_30 := ho_9.fr hF_19 (n_mm_out.sm)
          refine kx_lald (i := 0) hx hb hK h_30 0 rfl (by decide) (by decide) dL_law_2002 ?_
          refine lv_iload hx hb dL_law_2003 (lv_at hl 0 rfl) ?_
          refine kx_ifz (tgt := 2012) hx hb dL_law_2005 (by decide) (fun cb9 => ?_) (fun cb9 => ?_)
          · -- taken at 2005
            refine kx_lconst0 hx hb dL_law_2012 ?_
            refine kx_lcmpE hx hb (x := ((kup go 0 (kL (kb (st_cont S ln9 z2))))) 0) (y := kL (0)) ((kup_self _ _ _).trans (by first | rfl | (rw [cb9]; rfl))) dL_law_2013 ?_
            refine kx_if_eq (x := 0) (tgt := 2019) hx hb dL_law_2014 (by decide) (by omega) (by omega) (fun c_2014_31 => ?_) (fun c_2014_31 => ?_)
            · -- taken at 2014
              refine lv_goto (tgt := 2493) hx hb dL_law_2019 (by decide) ?_
              have h_32 := h_11.fr hF_19 (n_mm_ra.sm)
              have h_33 := h_12.fr hF_19 (n_mm_sa.sm)
              have h_34 := h_13.fr hF_19 (n_mm_ka.sm)
              have h_35 := h_14.fr hF_19 (n_mm_ta.sm)
              have h_36 := hA_outD.fr hF_5 (fun h => Or.elim h (n_out_outD.sm) (fun h => Nat.not_le_of_gt hA_outD.lt h))
              have h_37 := h_36.fr hF_19 (n_mm_outD.sm)
              have h_38 := hW.fr hd9 hF_5 (fun x => (fun h => Or.elim h (to_out x) (fun h => Or.inl h)))
              have h_39 := h_38.fr hd9 hF_19 (fun x => (ty_mm x))
              refine W.widen (k := cells + 50000) (n := slots + 228000) (by omega) (by omega) ?_
              have hM9 : kM D H_18 c0 out mm (S, gap) ((sl.map Prod.snd).head?) (hl2.map Prod.snd) t := ⟨ra, sa, ka, ta, _, _, _, _, _, _, _, _, _, _, _, _, ho_23, h_32, h_33, h_34, h_35, hMr, hMh, hMk, hMt, ht60, hMd, hMb, hMi⟩
              exact kk (S, gap) ((sl.map Prod.snd).head?) (hl2.map Prod.snd) t _ _ _ ⟨hS_25, lv_sub hl [2, 3, 4, 5, 6, 7] rfl, h_39, hM9, ⟨_, h_30⟩, ⟨_, h_37⟩, by omega, by omega⟩
            · -- not taken at 2014
              exfalso; omega
          · -- not taken at 2005
            refine kx_lconst1 hx hb dL_law_2008 ?_
            refine lv_goto (tgt := 2013) hx hb dL_law_2009 (by decide) ?_
            refine kx_lcmpE hx hb (x := ((kup go 0 (kL (kb (st_cont S ln9 z2))))) 0) (y := kL (1)) ((kup_self _ _ _).trans (by first | rfl | (rw [cb9]; rfl))) dL_law_2013 ?_
            refine kx_if_eq (x := 0) (tgt := 2019) hx hb dL_law_2014 (by decide) (by omega) (by omega) (fun c_2014_40 => ?_) (fun c_2014_40 => ?_)
            · -- taken at 2014
              refine lv_goto (tgt := 2493) hx hb dL_law_2019 (by decide) ?_
              have h_41 := h_11.fr hF_19 (n_mm_ra.sm)
              have h_42 := h_12.fr hF_19 (n_mm_sa.sm)
              have h_43 := h_13.fr hF_19 (n_mm_ka.sm)
              have h_44 := h_14.fr hF_19 (n_mm_ta.sm)
              have h_45 := hA_outD.fr hF_5 (fun h => Or.elim h (n_out_outD.sm) (fun h => Nat.not_le_of_gt hA_outD.lt h))
              have h_46 := h_45.fr hF_19 (n_mm_outD.sm)
              have h_47 := hW.fr hd9 hF_5 (fun x => (fun h => Or.elim h (to_out x) (fun h => Or.inl h)))
              have h_48 := h_47.fr hd9 hF_19 (fun x => (ty_mm x))
              refine W.widen (k := cells + 50000) (n := slots + 228000) (by omega) (by omega) ?_
              have hM9 : kM D H_18 c0 out mm (S, gap) ((sl.map Prod.snd).head?) (hl2.map Prod.snd) t := ⟨ra, sa, ka, ta, _, _, _, _, _, _, _, _, _, _, _, _, ho_23, h_41, h_42, h_43, h_44, hMr, hMh, hMk, hMt, ht60, hMd, hMb, hMi⟩
              exact kk (S, gap) ((sl.map Prod.snd).head?) (hl2.map Prod.snd) t _ _ _ ⟨hS_25, lv_sub hl [2, 3, 4, 5, 6, 7] rfl, h_48, hM9, ⟨_, h_30⟩, ⟨_, h_46⟩, by omega, by omega⟩
            · -- not taken at 2014
              exfalso; omega
      · -- not taken at 1990
        exfalso; omega
    · -- hA2
      refine lv_aload_n hx hb dL_law_1947 rfl (lv_at hl 1 rfl) ?_
      refine lv_aload_n hx hb dL_law_1948 rfl (lv_at hl 0 rfl) ?_
      refine lv_iload hx hb dL_law_1949 (lv_at hl 5 rfl) ?_
      refine kx_iconst hx hb dL_law_1951 ?_
      refine kx_iadd hx hb dL_law_1952 ?_
      refine kx_sld (i := (((3 * j : Nat) : Int) + 1)) hx hb hX hbl hbA hS (3 * j + 1) (by omega) (by omega) (by omega) dL_law_1953 ?_
      refine kx_eqi (((ln9 : Nat) : Int)) (hz1.symm.trans hv1) ?_
      refine lv_aload_n hx hb dL_law_1954 rfl (lv_at hl 0 rfl) ?_
      refine lv_iload hx hb dL_law_1955 (lv_at hl 5 rfl) ?_
      refine kx_iconst hx hb dL_law_1957 ?_
      refine kx_iadd hx hb dL_law_1958 ?_
      refine kx_sld (i := (((3 * j : Nat) : Int) + 2)) hx hb hX hbl hbA hS (3 * j + 2) (by omega) (by omega) (by omega) dL_law_1959 ?_
      refine kx_eqi (z2) (hz2.symm) ?_
      refine lv_aload_n hx hb dL_law_1960 rfl (lv_at hl 3 rfl) ?_
      refine kx_ci (vx_runSW (As := [.ref x1, .int (kI ((ln9 : Nat) : Int)), .int (kI (z2)), .ref out]) (rest := []) ⟨hx, hb, hml, hown, hts⟩ (wx_isWithinBySpreading_p l hl9 D H x1 ((sl.map (fun a => a.1.1)).head?) hi bu st la mc9 ea F S gap ln9 z2 out hO_x1 hO_st hO_la hLs9 hLn9 (by first | assumption | omega) (by first | assumption | omega) (by first | assumption | omega) (by first | assumption | omega)) (vx_cwSW 4 hts (lw_SW q2086 q2087 q78 q2088) rfl rfl rfl (by decide +kernel) ⟨Nat.le_of_ble_eq_true rfl, Nat.le_of_ble_eq_true rfl⟩) (kx_ps hK hS hB) rfl rfl hl.1 rfl (lv_room (Nat.le_of_ble_eq_true rfl)) dL_law_1961 ⟨by first | exact Nat.le_of_ble_eq_true rfl | omega | (dsimp only [lwR]; omega) | (show _ ≤ _; omega), by first | exact Nat.le_of_ble_eq_true rfl | omega | (dsimp only [lwR]; omega) | (show _ ≤ _; omega)⟩) hS (fun q _ h => by have h9 := hS.1; (try dsimp only at h); (try dsimp only); (try simp only [kNW] at h); (try simp only [kNW]); omega) (fun q h => by have h9 := hS.1; (try dsimp only at h); (try dsimp only); (try simp only [kNW] at h); (try simp only [kNW]); omega) (fun z_54 H_52 locs_49 hz_51 hF_53 hS_50 => ?_)
      have hzf_55 := hF_53.1
      have hF_53 := hF_53.nw
      obtain ⟨hv_56, hnw_57⟩ := hz_51
      subst z_54
      refine lv_istore (lv' := [(6, .int (kI (1))), (0, .ref b), (1, .ref x1), (2, .ref mm), (3, .ref out), (4, .ref outD), (5, .int (kI ((3 * j : Nat) : Int)))]) hx hb dL_law_1964 hl (by decide) rfl (fun ls hl => ?_)
      refine lv_aload_n hx hb dL_law_1966 rfl (lv_at hl 3 rfl) ?_
      refine lv_aload_n hx hb dL_law_1967 rfl (lv_at hl 1 rfl) ?_
      refine lv_iload hx hb dL_law_1968 (lv_at hl 6 rfl) ?_
      refine kx_iconst hx hb dL_law_1970 ?_
      refine kx_iadd hx hb dL_law_1971 ?_
      refine kx_sld (i := (((3 * j : Nat) : Int) + 1)) hx hb hX hbl hbA hS_50 (3 * j + 1) (by omega) (by omega) (by omega) dL_law_1972 ?_
      refine kx_eqi (((ln9 : Nat) : Int)) (hz1.symm.trans hv1) ?_
      refine lv_aload_n hx hb dL_law_1973 rfl (lv_at hl 1 rfl) ?_
      refine lv_iload hx hb dL_law_1974 (lv_at hl 6 rfl) ?_
      refine kx_iconst hx hb dL_law_1976 ?_
      refine kx_iadd hx hb dL_law_1977 ?_
      refine kx_sld (i := (((3 * j : Nat) : Int) + 2)) hx hb hX hbl hbA hS_50 (3 * j + 2) (by omega) (by omega) (by omega) dL_law_1978 ?_
      refine kx_eqi (z2) (hz2.symm) ?_
      have h_58 := hO_mm.ex hF_53
      have h_59 := hA_ra.ex hF_53
      have h_60 := hA_sa.ex hF_53
      have h_61 := hA_ka.ex hF_53
      have h_62 := hA_ta.ex hF_53
      have ty_mm : ∀ x, x = mm → H_52.size ≤ x ∨ (kTy D H_52 x ∧ c0 ≤ x ∧ x < c1) := fun x h => by rw [h]; exact Or.inr ⟨Or.inl ⟨2, _, by decide, by decide, by decide, h_58⟩, i_mm.1, w_mm⟩
      refine kx_cb (va_runV (As := [.int (kI ((ln9 : Nat) : Int)), .int (kI (z2))]) (rest := []) ⟨hx, hb, hml, hown, hts⟩ (m_X3_isWithinBySpreading_no l D H_52 mm ra sa ka ta nh ik t.length th sp9 iw le9 fi9 se9 g S gap (((ln9 : Nat) : Int)) z2 h_58 h_59 (by first | assumption | omega) (by first | assumption | omega) n_mm_ra b_mm (by first | assumption | omega) (by first | assumption | omega) (fun h => hA2 h.2)) (cwV 2 hts (lw_V q2564 q2565 q2566 q89 q2567) rfl rfl rfl (by decide +kernel) ⟨Nat.le_of_ble_eq_true rfl, Nat.le_of_ble_eq_true rfl⟩) (kx_pv hK hS_50 hB (kx_rc hK h_58 (C := RX3) (T := TX3) (N := 13) rfl)) rfl rfl hl.1 rfl (lv_room (Nat.le_of_ble_eq_true rfl)) dL_law_1979 ⟨by first | exact Nat.le_of_ble_eq_true rfl | omega | (dsimp only [lwR]; omega) | (show _ ≤ _; omega), by first | exact Nat.le_of_ble_eq_true rfl | omega | (dsimp only [lwR]; omega) | (show _ ≤ _; omega)⟩) hS_50 (fun q _ h => (ge_mm q) h) (fun q h => (ge_mm q) h) (fun z_68 H_66 locs_63 hz_65 hF_67 hS_64 => ?_)
      have hzf_69 := hF_67.1
      obtain ⟨hv_70, ho_71⟩ := hz_65
      subst z_68
      refine lv_istore (lv' := [(7, .int (kI (kb (false)))), (6, .int (kI (1))), (0, .ref b), (1, .ref x1), (2, .ref mm), (3, .ref out), (4, .ref outD), (5, .int (kI ((3 * j : Nat) : Int)))]) hx hb dL_law_1982 hl (by decide) rfl (fun ls hl => ?_)
      refine lv_aload_n hx hb dL_law_1984 rfl (lv_at hl 4 rfl) ?_
      refine kx_ci0 (va_runV (As := []) (rest := []) ⟨hx, hb, hml, hown, hts⟩ (m_X3_thrown l D H_66 mm ra sa ka ta nh ik t.length 1 sp9 iw le9 fi9 se9 ho_71 ) (cwV 0 hts (lw_V q2278 q2279 q2280 q89 q2281) rfl rfl rfl (by decide +kernel) ⟨Nat.le_of_ble_eq_true rfl, Nat.le_of_ble_eq_true rfl⟩) (kx_pv hK hS_64 hB (kx_rc hK ho_71 (C := RX3) (T := TX3) (N := 13) rfl)) rfl rfl hl.1 rfl (lv_room (Nat.le_of_ble_eq_true rfl)) dL_law_1985 ⟨by first | exact Nat.le_of_ble_eq_true rfl | omega | (dsimp only [lwR]; omega) | (show _ ≤ _; omega), by first | exact Nat.le_of_ble_eq_true rfl | omega | (dsimp only [lwR]; omega) | (show _ ≤ _; omega)⟩) hS_64 (fun z_75 locs_72 hz_74 hS_73 => ?_)
      subst z_75
      refine lv_iload hx hb dL_law_1988 (lv_at hl 1 rfl) ?_
      refine kx_icmp_eq (x := 1) (y := 1) (tgt := 1995) hx hb dL_law_1990 (by decide) (by omega) (by omega) (by omega) (by omega) (fun c_1990_76 => ?_) (fun c_1990_76 => ?_)
      · -- taken at 1990
        refine lv_iload hx hb dL_law_1995 (lv_at hl 1 rfl) ?_
        refine kx_if_ne (x := 1) (tgt := 2019) hx hb dL_law_1997 (by decide) (by omega) (by omega) (fun c_1997_77 => ?_) (fun c_1997_77 => ?_)
        · -- taken at 1997
          refine lv_goto (tgt := 2493) hx hb dL_law_2019 (by decide) ?_
          have h_78 := h_59.fr hF_67 (n_mm_ra.sm)
          have h_79 := h_60.fr hF_67 (n_mm_sa.sm)
          have h_80 := h_61.fr hF_67 (n_mm_ka.sm)
          have h_81 := h_62.fr hF_67 (n_mm_ta.sm)
          have h_82 := hA_out.ex hF_53
          have h_83 := h_82.fr hF_67 (n_mm_out.sm)
          have h_84 := hA_outD.ex hF_53
          have h_85 := h_84.fr hF_67 (n_mm_outD.sm)
          have h_86 := hW.ex hd9 hF_53
          have h_87 := h_86.fr hd9 hF_67 (fun x => (ty_mm x))
          refine W.widen (k := cells + 50000) (n := slots + 228000) (by omega) (by omega) ?_
          have hM9 : kM D H_66 c0 out mm (S, gap) ((sl.map Prod.snd).head?) (hl2.map Prod.snd) t := ⟨ra, sa, ka, ta, _, _, _, _, _, _, _, _, _, _, _, _, ho_71, h_78, h_79, h_80, h_81, hMr, hMh, hMk, hMt, ht60, hMd, hMb, hMi⟩
          exact kk (S, gap) ((sl.map Prod.snd).head?) (hl2.map Prod.snd) t _ _ _ ⟨hS_73, lv_sub hl [2, 3, 4, 5, 6, 7] rfl, h_87, hM9, ⟨_, h_83⟩, ⟨_, h_85⟩, by omega, by omega⟩
        · -- not taken at 1997
          exfalso; omega
      · -- not taken at 1990
        exfalso; omega
  · -- hA
    refine lv_aload_n hx hb dL_law_1947 rfl (lv_at hl 1 rfl) ?_
    refine lv_aload_n hx hb dL_law_1948 rfl (lv_at hl 0 rfl) ?_
    refine lv_iload hx hb dL_law_1949 (lv_at hl 5 rfl) ?_
    refine kx_iconst hx hb dL_law_1951 ?_
    refine kx_iadd hx hb dL_law_1952 ?_
    refine kx_sld (i := (((3 * j : Nat) : Int) + 1)) hx hb hX hbl hbA hS (3 * j + 1) (by omega) (by omega) (by omega) dL_law_1953 ?_
    refine kx_eqi (z1) (hz1.symm) ?_
    refine lv_aload_n hx hb dL_law_1954 rfl (lv_at hl 0 rfl) ?_
    refine lv_iload hx hb dL_law_1955 (lv_at hl 5 rfl) ?_
    refine kx_iconst hx hb dL_law_1957 ?_
    refine kx_iadd hx hb dL_law_1958 ?_
    refine kx_sld (i := (((3 * j : Nat) : Int) + 2)) hx hb hX hbl hbA hS (3 * j + 2) (by omega) (by omega) (by omega) dL_law_1959 ?_
    refine kx_eqi (z2) (hz2.symm) ?_
    refine lv_aload_n hx hb dL_law_1960 rfl (lv_at hl 3 rfl) ?_
    refine kx_ci (vx_runSW (As := [.ref x1, .int (kI (z1)), .int (kI (z2)), .ref out]) (rest := []) ⟨hx, hb, hml, hown, hts⟩ (wx_isWithinBySpreading l hl9 D H x1 ((sl.map (fun a => a.1.1)).head?) hi bu st la mc9 ea F S gap z1 z2 out hO_x1 hO_st hO_la hLs9 hLn9 (by first | assumption | omega) (by first | assumption | omega) (by first | assumption | omega)) (vx_cwSW 4 hts (lw_SW q2086 q2087 q78 q2088) rfl rfl rfl (by decide +kernel) ⟨Nat.le_of_ble_eq_true rfl, Nat.le_of_ble_eq_true rfl⟩) (kx_ps hK hS hB) rfl rfl hl.1 rfl (lv_room (Nat.le_of_ble_eq_true rfl)) dL_law_1961 ⟨by first | exact Nat.le_of_ble_eq_true rfl | omega | (dsimp only [lwR]; omega) | (show _ ≤ _; omega), by first | exact Nat.le_of_ble_eq_true rfl | omega | (dsimp only [lwR]; omega) | (show _ ≤ _; omega)⟩) hS (fun q _ h => by have h9 := hS.1; (try dsimp only at h); (try dsimp only); (try simp only [kNW] at h); (try simp only [kNW]); omega) (fun q h => by have h9 := hS.1; (try dsimp only at h); (try dsimp only); (try simp only [kNW] at h); (try simp only [kNW]); omega) (fun z_93 H_91 locs_88 hz_90 hF_92 hS_89 => ?_)
    have hzf_94 := hF_92.1
    have hF_92 := hF_92.nw
    obtain ⟨hv_95, hnw_96⟩ := hz_90
    subst z_93
    refine lv_istore (lv' := [(6, .int (kI (1))), (0, .ref b), (1, .ref x1), (2, .ref mm), (3, .ref out), (4, .ref outD), (5, .int (kI ((3 * j : Nat) : Int)))]) hx hb dL_law_1964 hl (by decide) rfl (fun ls hl => ?_)
    refine lv_aload_n hx hb dL_law_1966 rfl (lv_at hl 3 rfl) ?_
    refine lv_aload_n hx hb dL_law_1967 rfl (lv_at hl 1 rfl) ?_
    refine lv_iload hx hb dL_law_1968 (lv_at hl 6 rfl) ?_
    refine kx_iconst hx hb dL_law_1970 ?_
    refine kx_iadd hx hb dL_law_1971 ?_
    refine kx_sld (i := (((3 * j : Nat) : Int) + 1)) hx hb hX hbl hbA hS_89 (3 * j + 1) (by omega) (by omega) (by omega) dL_law_1972 ?_
    refine kx_eqi (z1) (hz1.symm) ?_
    refine lv_aload_n hx hb dL_law_1973 rfl (lv_at hl 1 rfl) ?_
    refine lv_iload hx hb dL_law_1974 (lv_at hl 6 rfl) ?_
    refine kx_iconst hx hb dL_law_1976 ?_
    refine kx_iadd hx hb dL_law_1977 ?_
    refine kx_sld (i := (((3 * j : Nat) : Int) + 2)) hx hb hX hbl hbA hS_89 (3 * j + 2) (by omega) (by omega) (by omega) dL_law_1978 ?_
    refine kx_eqi (z2) (hz2.symm) ?_
    have h_97 := hO_mm.ex hF_92
    have h_98 := hA_ra.ex hF_92
    have h_99 := hA_sa.ex hF_92
    have h_100 := hA_ka.ex hF_92
    have h_101 := hA_ta.ex hF_92
    have ty_mm : ∀ x, x = mm → H_91.size ≤ x ∨ (kTy D H_91 x ∧ c0 ≤ x ∧ x < c1) := fun x h => by rw [h]; exact Or.inr ⟨Or.inl ⟨2, _, by decide, by decide, by decide, h_97⟩, i_mm.1, w_mm⟩
    refine kx_cb (va_runV (As := [.int (kI (z1)), .int (kI (z2))]) (rest := []) ⟨hx, hb, hml, hown, hts⟩ (m_X3_isWithinBySpreading_no l D H_91 mm ra sa ka ta nh ik t.length th sp9 iw le9 fi9 se9 g S gap z1 z2 h_97 h_98 (by first | assumption | omega) (by first | assumption | omega) n_mm_ra b_mm (by first | assumption | omega) (by first | assumption | omega) (fun h => hA h.1)) (cwV 2 hts (lw_V q2564 q2565 q2566 q89 q2567) rfl rfl rfl (by decide +kernel) ⟨Nat.le_of_ble_eq_true rfl, Nat.le_of_ble_eq_true rfl⟩) (kx_pv hK hS_89 hB (kx_rc hK h_97 (C := RX3) (T := TX3) (N := 13) rfl)) rfl rfl hl.1 rfl (lv_room (Nat.le_of_ble_eq_true rfl)) dL_law_1979 ⟨by first | exact Nat.le_of_ble_eq_true rfl | omega | (dsimp only [lwR]; omega) | (show _ ≤ _; omega), by first | exact Nat.le_of_ble_eq_true rfl | omega | (dsimp only [lwR]; omega) | (show _ ≤ _; omega)⟩) hS_89 (fun q _ h => (ge_mm q) h) (fun q h => (ge_mm q) h) (fun z_107 H_105 locs_102 hz_104 hF_106 hS_103 => ?_)
    have hzf_108 := hF_106.1
    obtain ⟨hv_109, ho_110⟩ := hz_104
    subst z_107
    refine lv_istore (lv' := [(7, .int (kI (kb (false)))), (6, .int (kI (1))), (0, .ref b), (1, .ref x1), (2, .ref mm), (3, .ref out), (4, .ref outD), (5, .int (kI ((3 * j : Nat) : Int)))]) hx hb dL_law_1982 hl (by decide) rfl (fun ls hl => ?_)
    refine lv_aload_n hx hb dL_law_1984 rfl (lv_at hl 4 rfl) ?_
    refine kx_ci0 (va_runV (As := []) (rest := []) ⟨hx, hb, hml, hown, hts⟩ (m_X3_thrown l D H_105 mm ra sa ka ta nh ik t.length 1 sp9 iw le9 fi9 se9 ho_110 ) (cwV 0 hts (lw_V q2278 q2279 q2280 q89 q2281) rfl rfl rfl (by decide +kernel) ⟨Nat.le_of_ble_eq_true rfl, Nat.le_of_ble_eq_true rfl⟩) (kx_pv hK hS_103 hB (kx_rc hK ho_110 (C := RX3) (T := TX3) (N := 13) rfl)) rfl rfl hl.1 rfl (lv_room (Nat.le_of_ble_eq_true rfl)) dL_law_1985 ⟨by first | exact Nat.le_of_ble_eq_true rfl | omega | (dsimp only [lwR]; omega) | (show _ ≤ _; omega), by first | exact Nat.le_of_ble_eq_true rfl | omega | (dsimp only [lwR]; omega) | (show _ ≤ _; omega)⟩) hS_103 (fun z_114 locs_111 hz_113 hS_112 => ?_)
    subst z_114
    refine lv_iload hx hb dL_law_1988 (lv_at hl 1 rfl) ?_
    refine kx_icmp_eq (x := 1) (y := 1) (tgt := 1995) hx hb dL_law_1990 (by decide) (by omega) (by omega) (by omega) (by omega) (fun c_1990_115 => ?_) (fun c_1990_115 => ?_)
    · -- taken at 1990
      refine lv_iload hx hb dL_law_1995 (lv_at hl 1 rfl) ?_
      refine kx_if_ne (x := 1) (tgt := 2019) hx hb dL_law_1997 (by decide) (by omega) (by omega) (fun c_1997_116 => ?_) (fun c_1997_116 => ?_)
      · -- taken at 1997
        refine lv_goto (tgt := 2493) hx hb dL_law_2019 (by decide) ?_
        have h_117 := h_98.fr hF_106 (n_mm_ra.sm)
        have h_118 := h_99.fr hF_106 (n_mm_sa.sm)
        have h_119 := h_100.fr hF_106 (n_mm_ka.sm)
        have h_120 := h_101.fr hF_106 (n_mm_ta.sm)
        have h_121 := hA_out.ex hF_92
        have h_122 := h_121.fr hF_106 (n_mm_out.sm)
        have h_123 := hA_outD.ex hF_92
        have h_124 := h_123.fr hF_106 (n_mm_outD.sm)
        have h_125 := hW.ex hd9 hF_92
        have h_126 := h_125.fr hd9 hF_106 (fun x => (ty_mm x))
        refine W.widen (k := cells + 50000) (n := slots + 228000) (by omega) (by omega) ?_
        have hM9 : kM D H_105 c0 out mm (S, gap) ((sl.map Prod.snd).head?) (hl2.map Prod.snd) t := ⟨ra, sa, ka, ta, _, _, _, _, _, _, _, _, _, _, _, _, ho_110, h_117, h_118, h_119, h_120, hMr, hMh, hMk, hMt, ht60, hMd, hMb, hMi⟩
        exact kk (S, gap) ((sl.map Prod.snd).head?) (hl2.map Prod.snd) t _ _ _ ⟨hS_112, lv_sub hl [2, 3, 4, 5, 6, 7] rfl, h_126, hM9, ⟨_, h_122⟩, ⟨_, h_124⟩, by omega, by omega⟩
      · -- not taken at 1997
        exfalso; omega
    · -- not taken at 1990
      exfalso; omega

set_option maxHeartbeats 8000000 in
set_option maxRecDepth 100000 in
theorem lc_lines {p : Program} {e : Env} {s : State} {m : MethodId} {below : List Frame} {meth : Method} {c : Code} {l : Launch} {D : kG} {b L c0 c1 x1 mm out outD : Nat} {xs : Nat → Int32} {Q : State → Prop} (C0 : lwC D p l s m meth c b L c0 c1 out outD xs) {j : Nat} (hj : 3 * j + 3 ≤ L) {S : Ls} {gap : Int} {sn : Option Sg} {hs : List Sg} {t : List Int} {H : Heap} {locs : List Loc} {ls : Array Slot} (I0 : lwI D s b c0 c1 x1 mm out outD j j (S, gap) sn hs t H locs ls) {cells slots : Nat} (hcl : cells + 50000 ≤ 1200144) (hsl9 : slots + 228000 ≤ 5496058) (kk : ∀ (σ : Sg) (sn : Option Sg) (hs : List Sg) (t : List Int) (H : Heap) (locs : List Loc) (ls : Array Slot), lwI D s b c0 c1 x1 mm out outD j (j + 1) σ sn hs t H locs ls → W p l e lwR s m #[Value.ref b] below meth c H locs (cells + 50000) (slots + 228000) Q (F0 m 2493 ls [])) : W p l e lwR s m #[Value.ref b] below meth c H locs cells slots Q (F0 m 752 ls []) := by
  obtain ⟨hx, hb, hml, hown, hts, hlk, hK, hl9, hX, hbl, hbs, hL72, hc0, hco, hod, hdc⟩ := C0
  obtain ⟨hS, hl, hW, hM, ⟨go, hA_out⟩, ⟨gd, hA_outD⟩, hc1, htl⟩ := I0
  have hB : ∀ q, (kNW s.heap) q → kBase D ≤ q := fun q h => Nat.le_trans hK.size h
  have hbA : ¬ (kNW s.heap) b := fun h => by have h9 : s.heap.size ≤ b := h; omega
  have hd9 := hK.dis
  have hxE : ¬ kBase D ≤ D.2.2.2 2 := hK.tE.out
  obtain ⟨z1, hz1⟩ : ∃ z, z = (xs (3 * j + 1)).toInt := ⟨_, rfl⟩
  obtain ⟨z2, hz2⟩ : ∃ z, z = (xs (3 * j + 2)).toInt := ⟨_, rfl⟩
  have hr1 : -2147483648 ≤ z1 ∧ z1 ≤ 2147483647 := by rw [hz1]; exact i32r _
  have hr2 : -2147483648 ≤ z2 ∧ z2 ≤ 2147483647 := by rw [hz2]; exact i32r _
  obtain ⟨⟨st, la, ea, F⟩, sl, hl2, hi, es, bu, vb, hO_x1, hDq, hTx, hX5, hev, hAl, hDj, hPw, hsl, hsn, hhs⟩ := id hW
  subst hsn
  subst hhs
  obtain ⟨ra, sa, ka, ta, nh, ik, th, sp9, iw, le9, fi9, se9, g, gs, gk, gt, hO_mm, hA_ra, hA_sa, hA_ka, hA_ta, hMr, hMh, hMk, hMt, ht60, hMd, hMb, hMi⟩ := id hM
  have hMr : MRow g S gap := hMr
  have h0 := hAl _ List.mem_cons_self
  have hP_kState_st : kState D H st la ea gap S F := h0.1
  have hok : LsOK S gap := h0.2.1
  have hG : StG S := h0.2.2.1
  have hL8 : S.length ≤ 8 := hok.1
  have hgp := hok.2.1
  have hO_x1 : kO D H x1 0 [.ref st, va_rf ((sl.map (fun a => a.1.1)).head?), .ref hi, .ref bu] := hO_x1
  have hOw : ∀ q, kOwn D st la ea F S.length q → q ∉ [x1, hi, es, bu, vb] ∧ (q < c0 ∨ c1 ≤ q) := h0.2.2.2
  have hev : Hd (es ≠ vb) := hev
  have io_x1 : ∀ x, c0 ≤ x → x < c1 → x ≠ x1 := fun x => out_of (hX5 x1 (by simp)).2
  have io_hi : ∀ x, c0 ≤ x → x < c1 → x ≠ hi := fun x => out_of (hX5 hi (by simp)).2
  have io_es : ∀ x, c0 ≤ x → x < c1 → x ≠ es := fun x => out_of (hX5 es (by simp)).2
  have io_bu : ∀ x, c0 ≤ x → x < c1 → x ≠ bu := fun x => out_of (hX5 bu (by simp)).2
  have io_vb : ∀ x, c0 ≤ x → x < c1 → x ≠ vb := fun x => out_of (hX5 vb (by simp)).2
  have b_x1 := (hX5 x1 (by simp)).1
  have b_hi := (hX5 hi (by simp)).1
  have b_es := (hX5 es (by simp)).1
  have b_bu := (hX5 bu (by simp)).1
  have b_vb := (hX5 vb (by simp)).1
  obtain ⟨⟨⟨n1, n2, n3, n4⟩, n5, n6, n7⟩, n8, n9, n10⟩ := hMd
  have n_mm_ra : Hd (mm ≠ ra) := n1
  have n_mm_sa : Hd (mm ≠ sa) := n2
  have n_mm_ka : Hd (mm ≠ ka) := n3
  have n_mm_ta : Hd (mm ≠ ta) := n4
  have n_ra_sa : Hd (ra ≠ sa) := n5
  have n_ra_ka : Hd (ra ≠ ka) := n6
  have n_ra_ta : Hd (ra ≠ ta) := n7
  have n_sa_ka : Hd (sa ≠ ka) := n8
  have n_sa_ta : Hd (sa ≠ ta) := n9
  have n_ka_ta : Hd (ka ≠ ta) := n10
  have hMd : Hd (((mm ≠ ra ∧ mm ≠ sa ∧ mm ≠ ka ∧ mm ≠ ta) ∧ ra ≠ sa ∧ ra ≠ ka ∧ ra ≠ ta) ∧ sa ≠ ka ∧ sa ≠ ta ∧ ka ≠ ta) := ⟨⟨⟨n1, n2, n3, n4⟩, n5, n6, n7⟩, n8, n9, n10⟩
  clear n1 n2 n3 n4 n5 n6 n7 n8 n9 n10
  obtain ⟨b_mm, b_ra, b_sa, b_ka, b_ta⟩ := id hMb
  obtain ⟨i_mm, i_ra, i_sa, i_ka, i_ta⟩ := id hMi
  have b_out : kBase D ≤ out := by omega
  have hcc : c0 ≤ c1 := by omega
  have w_mm : mm < c1 := by omega
  have n_mm_out : Hd (mm ≠ out) := Nat.ne_of_lt i_mm.2
  have n_mm_outD : Hd (mm ≠ outD) := Nat.ne_of_lt (Nat.lt_trans i_mm.2 hod)
  have w_ra : ra < c1 := by omega
  have n_ra_out : Hd (ra ≠ out) := Nat.ne_of_lt i_ra.2
  have n_ra_outD : Hd (ra ≠ outD) := Nat.ne_of_lt (Nat.lt_trans i_ra.2 hod)
  have w_sa : sa < c1 := by omega
  have n_sa_out : Hd (sa ≠ out) := Nat.ne_of_lt i_sa.2
  have n_sa_outD : Hd (sa ≠ outD) := Nat.ne_of_lt (Nat.lt_trans i_sa.2 hod)
  have w_ka : ka < c1 := by omega
  have n_ka_out : Hd (ka ≠ out) := Nat.ne_of_lt i_ka.2
  have n_ka_outD : Hd (ka ≠ outD) := Nat.ne_of_lt (Nat.lt_trans i_ka.2 hod)
  have w_ta : ta < c1 := by omega
  have n_ta_out : Hd (ta ≠ out) := Nat.ne_of_lt i_ta.2
  have n_ta_outD : Hd (ta ≠ outD) := Nat.ne_of_lt (Nat.lt_trans i_ta.2 hod)
  have ge_mm : ∀ q, q = mm → kNW s.heap q := fun q h => by rw [h]; show s.heap.size ≤ mm; omega
  have ge_ra : ∀ q, q = ra → kNW s.heap q := fun q h => by rw [h]; show s.heap.size ≤ ra; omega
  have ge_sa : ∀ q, q = sa → kNW s.heap q := fun q h => by rw [h]; show s.heap.size ≤ sa; omega
  have ge_ka : ∀ q, q = ka → kNW s.heap q := fun q h => by rw [h]; show s.heap.size ≤ ka; omega
  have ge_ta : ∀ q, q = ta → kNW s.heap q := fun q h => by rw [h]; show s.heap.size ≤ ta; omega
  have ge_out : ∀ q, q = out → kNW s.heap q := fun q h => by rw [h]; show s.heap.size ≤ out; omega
  have n_out_outD : Hd (out ≠ outD) := Nat.ne_of_lt hod
  have w_out : out < c1 := by omega
  have w_outD : outD < c1 := hdc
  have i_outD : c0 ≤ outD := by omega
  have htyo : kTy D H out := Or.inr ⟨2, _, by decide, hA_out⟩
  have htyd : kTy D H outD := Or.inr ⟨3, _, by decide, hA_outD⟩
  have to_out : ∀ x, x = out → H.size ≤ x ∨ (kTy D H x ∧ c0 ≤ x ∧ x < c1) := fun x h => by rw [h]; exact Or.inr ⟨htyo, hco, w_out⟩
  have to_outD : ∀ x, x = outD → H.size ≤ x ∨ (kTy D H x ∧ c0 ≤ x ∧ x < c1) := fun x h => by rw [h]; exact Or.inr ⟨htyd, i_outD, w_outD⟩
  obtain ⟨⟨hO_st, mc9, hO_la⟩, hLs9, hLn9, hF9, hDs9, hb1, hb2, hb3⟩ := id hP_kState_st
  refine lv_aload_n hx hb dL_law_752 rfl (lv_at hl 1 rfl) ?_
  refine kx_ci0 (va_runV (As := []) (rest := []) ⟨hx, hb, hml, hown, hts⟩ (m_X1_lines l D H x1 ((sl.map (fun a => a.1.1)).head?) hi bu st la mc9 ea F S gap hO_x1 hO_st hO_la hLs9 hLn9 (by first | assumption | omega)) (cwV 0 hts (lw_V q1262 q1263 q1264 q79 q1265) rfl rfl rfl (by decide +kernel) ⟨Nat.le_of_ble_eq_true rfl, Nat.le_of_ble_eq_true rfl⟩) (kx_pv hK hS hB (kx_rc hK hO_x1 (C := RX1) (T := TX1) (N := 4) rfl)) rfl rfl hl.1 rfl (lv_room (Nat.le_of_ble_eq_true rfl)) dL_law_753 ⟨by first | exact Nat.le_of_ble_eq_true rfl | omega | (dsimp only [lwR]; omega) | (show _ ≤ _; omega), by first | exact Nat.le_of_ble_eq_true rfl | omega | (dsimp only [lwR]; omega) | (show _ ≤ _; omega)⟩) hS (fun z_4 locs_1 hz_3 hS_2 => ?_)
  subst z_4
  refine lv_aload_n hx hb dL_law_756 rfl (lv_at hl 2 rfl) ?_
  have ty_mm : ∀ x, x = mm → H.size ≤ x ∨ (kTy D H x ∧ c0 ≤ x ∧ x < c1) := fun x h => by rw [h]; exact Or.inr ⟨Or.inl ⟨2, _, by decide, by decide, by decide, hO_mm⟩, i_mm.1, w_mm⟩
  refine kx_ci (va_runV (As := []) (rest := [.int (kI ((S.length : Nat) : Int))]) ⟨hx, hb, hml, hown, hts⟩ (m_X3_lines l D H mm ra sa ka ta nh ik t.length th sp9 iw le9 fi9 se9 g S gap hO_mm hA_ra (by first | assumption | omega) (by first | assumption | omega) n_mm_ra b_mm) (cwV 0 hts (lw_V q2443 q2444 q2445 q89 q2446) rfl rfl rfl (by decide +kernel) ⟨Nat.le_of_ble_eq_true rfl, Nat.le_of_ble_eq_true rfl⟩) (kx_pv hK hS_2 hB (kx_rc hK hO_mm (C := RX3) (T := TX3) (N := 13) rfl)) rfl rfl hl.1 rfl (lv_room (Nat.le_of_ble_eq_true rfl)) dL_law_757 ⟨by first | exact Nat.le_of_ble_eq_true rfl | omega | (dsimp only [lwR]; omega) | (show _ ≤ _; omega), by first | exact Nat.le_of_ble_eq_true rfl | omega | (dsimp only [lwR]; omega) | (show _ ≤ _; omega)⟩) hS_2 (fun q _ h => (ge_mm q) h) (fun q h => (ge_mm q) h) (fun z_10 H_8 locs_5 hz_7 hF_9 hS_6 => ?_)
  have hzf_11 := hF_9.1
  obtain ⟨hv_12, ho_13⟩ := hz_7
  subst z_10
  refine kx_icmp_eq (x := ((S.length : Nat) : Int)) (y := ((S.length : Nat) : Int)) (tgt := 2493) hx hb dL_law_760 (by decide) (by omega) (by omega) (by omega) (by omega) (fun cd9 => ?_) (fun cd9 => ?_)
  · -- taken at 760
    have h_14 := hA_ra.fr hF_9 (n_mm_ra.sm)
    have h_15 := hA_sa.fr hF_9 (n_mm_sa.sm)
    have h_16 := hA_ka.fr hF_9 (n_mm_ka.sm)
    have h_17 := hA_ta.fr hF_9 (n_mm_ta.sm)
    have h_18 := hA_out.fr hF_9 (n_mm_out.sm)
    have h_19 := hA_outD.fr hF_9 (n_mm_outD.sm)
    have h_20 := hW.fr hd9 hF_9 (fun x => (ty_mm x))
    refine W.widen (k := cells + 50000) (n := slots + 228000) (by omega) (by omega) ?_
    have hM9 : kM D H_8 c0 out mm (S, gap) ((sl.map Prod.snd).head?) (hl2.map Prod.snd) t := ⟨ra, sa, ka, ta, _, _, _, _, _, _, _, _, _, _, _, _, ho_13, h_14, h_15, h_16, h_17, hMr, hMh, hMk, hMt, ht60, hMd, hMb, hMi⟩
    exact kk (S, gap) ((sl.map Prod.snd).head?) (hl2.map Prod.snd) t _ _ _ ⟨hS_6, lv_sub hl [0, 1, 2, 3, 4, 5] rfl, h_20, hM9, ⟨_, h_18⟩, ⟨_, h_19⟩, by omega, by omega⟩
  · -- not taken at 760
    exfalso; omega

set_option maxHeartbeats 8000000 in
set_option maxRecDepth 100000 in
theorem lc_gap {p : Program} {e : Env} {s : State} {m : MethodId} {below : List Frame} {meth : Method} {c : Code} {l : Launch} {D : kG} {b L c0 c1 x1 mm out outD : Nat} {xs : Nat → Int32} {Q : State → Prop} (C0 : lwC D p l s m meth c b L c0 c1 out outD xs) {j : Nat} (hj : 3 * j + 3 ≤ L) {S : Ls} {gap : Int} {sn : Option Sg} {hs : List Sg} {t : List Int} {H : Heap} {locs : List Loc} {ls : Array Slot} (I0 : lwI D s b c0 c1 x1 mm out outD j j (S, gap) sn hs t H locs ls) {cells slots : Nat} (hcl : cells + 50000 ≤ 1200144) (hsl9 : slots + 228000 ≤ 5496058) (kk : ∀ (σ : Sg) (sn : Option Sg) (hs : List Sg) (t : List Int) (H : Heap) (locs : List Loc) (ls : Array Slot), lwI D s b c0 c1 x1 mm out outD j (j + 1) σ sn hs t H locs ls → W p l e lwR s m #[Value.ref b] below meth c H locs (cells + 50000) (slots + 228000) Q (F0 m 2493 ls [])) : W p l e lwR s m #[Value.ref b] below meth c H locs cells slots Q (F0 m 1354 ls []) := by
  obtain ⟨hx, hb, hml, hown, hts, hlk, hK, hl9, hX, hbl, hbs, hL72, hc0, hco, hod, hdc⟩ := C0
  obtain ⟨hS, hl, hW, hM, ⟨go, hA_out⟩, ⟨gd, hA_outD⟩, hc1, htl⟩ := I0
  have hB : ∀ q, (kNW s.heap) q → kBase D ≤ q := fun q h => Nat.le_trans hK.size h
  have hbA : ¬ (kNW s.heap) b := fun h => by have h9 : s.heap.size ≤ b := h; omega
  have hd9 := hK.dis
  have hxE : ¬ kBase D ≤ D.2.2.2 2 := hK.tE.out
  obtain ⟨z1, hz1⟩ : ∃ z, z = (xs (3 * j + 1)).toInt := ⟨_, rfl⟩
  obtain ⟨z2, hz2⟩ : ∃ z, z = (xs (3 * j + 2)).toInt := ⟨_, rfl⟩
  have hr1 : -2147483648 ≤ z1 ∧ z1 ≤ 2147483647 := by rw [hz1]; exact i32r _
  have hr2 : -2147483648 ≤ z2 ∧ z2 ≤ 2147483647 := by rw [hz2]; exact i32r _
  obtain ⟨⟨st, la, ea, F⟩, sl, hl2, hi, es, bu, vb, hO_x1, hDq, hTx, hX5, hev, hAl, hDj, hPw, hsl, hsn, hhs⟩ := id hW
  subst hsn
  subst hhs
  obtain ⟨ra, sa, ka, ta, nh, ik, th, sp9, iw, le9, fi9, se9, g, gs, gk, gt, hO_mm, hA_ra, hA_sa, hA_ka, hA_ta, hMr, hMh, hMk, hMt, ht60, hMd, hMb, hMi⟩ := id hM
  have hMr : MRow g S gap := hMr
  have h0 := hAl _ List.mem_cons_self
  have hP_kState_st : kState D H st la ea gap S F := h0.1
  have hok : LsOK S gap := h0.2.1
  have hG : StG S := h0.2.2.1
  have hL8 : S.length ≤ 8 := hok.1
  have hgp := hok.2.1
  have hO_x1 : kO D H x1 0 [.ref st, va_rf ((sl.map (fun a => a.1.1)).head?), .ref hi, .ref bu] := hO_x1
  have hOw : ∀ q, kOwn D st la ea F S.length q → q ∉ [x1, hi, es, bu, vb] ∧ (q < c0 ∨ c1 ≤ q) := h0.2.2.2
  have hev : Hd (es ≠ vb) := hev
  have io_x1 : ∀ x, c0 ≤ x → x < c1 → x ≠ x1 := fun x => out_of (hX5 x1 (by simp)).2
  have io_hi : ∀ x, c0 ≤ x → x < c1 → x ≠ hi := fun x => out_of (hX5 hi (by simp)).2
  have io_es : ∀ x, c0 ≤ x → x < c1 → x ≠ es := fun x => out_of (hX5 es (by simp)).2
  have io_bu : ∀ x, c0 ≤ x → x < c1 → x ≠ bu := fun x => out_of (hX5 bu (by simp)).2
  have io_vb : ∀ x, c0 ≤ x → x < c1 → x ≠ vb := fun x => out_of (hX5 vb (by simp)).2
  have b_x1 := (hX5 x1 (by simp)).1
  have b_hi := (hX5 hi (by simp)).1
  have b_es := (hX5 es (by simp)).1
  have b_bu := (hX5 bu (by simp)).1
  have b_vb := (hX5 vb (by simp)).1
  obtain ⟨⟨⟨n1, n2, n3, n4⟩, n5, n6, n7⟩, n8, n9, n10⟩ := hMd
  have n_mm_ra : Hd (mm ≠ ra) := n1
  have n_mm_sa : Hd (mm ≠ sa) := n2
  have n_mm_ka : Hd (mm ≠ ka) := n3
  have n_mm_ta : Hd (mm ≠ ta) := n4
  have n_ra_sa : Hd (ra ≠ sa) := n5
  have n_ra_ka : Hd (ra ≠ ka) := n6
  have n_ra_ta : Hd (ra ≠ ta) := n7
  have n_sa_ka : Hd (sa ≠ ka) := n8
  have n_sa_ta : Hd (sa ≠ ta) := n9
  have n_ka_ta : Hd (ka ≠ ta) := n10
  have hMd : Hd (((mm ≠ ra ∧ mm ≠ sa ∧ mm ≠ ka ∧ mm ≠ ta) ∧ ra ≠ sa ∧ ra ≠ ka ∧ ra ≠ ta) ∧ sa ≠ ka ∧ sa ≠ ta ∧ ka ≠ ta) := ⟨⟨⟨n1, n2, n3, n4⟩, n5, n6, n7⟩, n8, n9, n10⟩
  clear n1 n2 n3 n4 n5 n6 n7 n8 n9 n10
  obtain ⟨b_mm, b_ra, b_sa, b_ka, b_ta⟩ := id hMb
  obtain ⟨i_mm, i_ra, i_sa, i_ka, i_ta⟩ := id hMi
  have b_out : kBase D ≤ out := by omega
  have hcc : c0 ≤ c1 := by omega
  have w_mm : mm < c1 := by omega
  have n_mm_out : Hd (mm ≠ out) := Nat.ne_of_lt i_mm.2
  have n_mm_outD : Hd (mm ≠ outD) := Nat.ne_of_lt (Nat.lt_trans i_mm.2 hod)
  have w_ra : ra < c1 := by omega
  have n_ra_out : Hd (ra ≠ out) := Nat.ne_of_lt i_ra.2
  have n_ra_outD : Hd (ra ≠ outD) := Nat.ne_of_lt (Nat.lt_trans i_ra.2 hod)
  have w_sa : sa < c1 := by omega
  have n_sa_out : Hd (sa ≠ out) := Nat.ne_of_lt i_sa.2
  have n_sa_outD : Hd (sa ≠ outD) := Nat.ne_of_lt (Nat.lt_trans i_sa.2 hod)
  have w_ka : ka < c1 := by omega
  have n_ka_out : Hd (ka ≠ out) := Nat.ne_of_lt i_ka.2
  have n_ka_outD : Hd (ka ≠ outD) := Nat.ne_of_lt (Nat.lt_trans i_ka.2 hod)
  have w_ta : ta < c1 := by omega
  have n_ta_out : Hd (ta ≠ out) := Nat.ne_of_lt i_ta.2
  have n_ta_outD : Hd (ta ≠ outD) := Nat.ne_of_lt (Nat.lt_trans i_ta.2 hod)
  have ge_mm : ∀ q, q = mm → kNW s.heap q := fun q h => by rw [h]; show s.heap.size ≤ mm; omega
  have ge_ra : ∀ q, q = ra → kNW s.heap q := fun q h => by rw [h]; show s.heap.size ≤ ra; omega
  have ge_sa : ∀ q, q = sa → kNW s.heap q := fun q h => by rw [h]; show s.heap.size ≤ sa; omega
  have ge_ka : ∀ q, q = ka → kNW s.heap q := fun q h => by rw [h]; show s.heap.size ≤ ka; omega
  have ge_ta : ∀ q, q = ta → kNW s.heap q := fun q h => by rw [h]; show s.heap.size ≤ ta; omega
  have ge_out : ∀ q, q = out → kNW s.heap q := fun q h => by rw [h]; show s.heap.size ≤ out; omega
  have n_out_outD : Hd (out ≠ outD) := Nat.ne_of_lt hod
  have w_out : out < c1 := by omega
  have w_outD : outD < c1 := hdc
  have i_outD : c0 ≤ outD := by omega
  have htyo : kTy D H out := Or.inr ⟨2, _, by decide, hA_out⟩
  have htyd : kTy D H outD := Or.inr ⟨3, _, by decide, hA_outD⟩
  have to_out : ∀ x, x = out → H.size ≤ x ∨ (kTy D H x ∧ c0 ≤ x ∧ x < c1) := fun x h => by rw [h]; exact Or.inr ⟨htyo, hco, w_out⟩
  have to_outD : ∀ x, x = outD → H.size ≤ x ∨ (kTy D H x ∧ c0 ≤ x ∧ x < c1) := fun x h => by rw [h]; exact Or.inr ⟨htyd, i_outD, w_outD⟩
  obtain ⟨⟨hO_st, mc9, hO_la⟩, hLs9, hLn9, hF9, hDs9, hb1, hb2, hb3⟩ := id hP_kState_st
  refine lv_aload_n hx hb dL_law_1354 rfl (lv_at hl 1 rfl) ?_
  refine kx_ci0 (va_runV (As := []) (rest := []) ⟨hx, hb, hml, hown, hts⟩ (m_X1_gap l D H x1 ((sl.map (fun a => a.1.1)).head?) hi bu st la mc9 ea F S gap hO_x1 hO_st hO_la hLs9 hLn9 (by first | assumption | omega)) (cwV 0 hts (lw_V q1268 q1269 q1270 q79 q1271) rfl rfl rfl (by decide +kernel) ⟨Nat.le_of_ble_eq_true rfl, Nat.le_of_ble_eq_true rfl⟩) (kx_pv hK hS hB (kx_rc hK hO_x1 (C := RX1) (T := TX1) (N := 4) rfl)) rfl rfl hl.1 rfl (lv_room (Nat.le_of_ble_eq_true rfl)) dL_law_1355 ⟨by first | exact Nat.le_of_ble_eq_true rfl | omega | (dsimp only [lwR]; omega) | (show _ ≤ _; omega), by first | exact Nat.le_of_ble_eq_true rfl | omega | (dsimp only [lwR]; omega) | (show _ ≤ _; omega)⟩) hS (fun z_4 locs_1 hz_3 hS_2 => ?_)
  subst z_4
  refine lv_aload_n hx hb dL_law_1358 rfl (lv_at hl 2 rfl) ?_
  have ty_mm : ∀ x, x = mm → H.size ≤ x ∨ (kTy D H x ∧ c0 ≤ x ∧ x < c1) := fun x h => by rw [h]; exact Or.inr ⟨Or.inl ⟨2, _, by decide, by decide, by decide, hO_mm⟩, i_mm.1, w_mm⟩
  refine kx_ci (va_runV (As := []) (rest := [.int (kI (gap))]) ⟨hx, hb, hml, hown, hts⟩ (m_X3_gap l D H mm ra sa ka ta nh ik t.length th sp9 iw le9 fi9 se9 g S gap hO_mm hA_ra (by first | assumption | omega) (by first | assumption | omega) n_mm_ra b_mm) (cwV 0 hts (lw_V q2504 q2505 q2506 q89 q2507) rfl rfl rfl (by decide +kernel) ⟨Nat.le_of_ble_eq_true rfl, Nat.le_of_ble_eq_true rfl⟩) (kx_pv hK hS_2 hB (kx_rc hK hO_mm (C := RX3) (T := TX3) (N := 13) rfl)) rfl rfl hl.1 rfl (lv_room (Nat.le_of_ble_eq_true rfl)) dL_law_1359 ⟨by first | exact Nat.le_of_ble_eq_true rfl | omega | (dsimp only [lwR]; omega) | (show _ ≤ _; omega), by first | exact Nat.le_of_ble_eq_true rfl | omega | (dsimp only [lwR]; omega) | (show _ ≤ _; omega)⟩) hS_2 (fun q _ h => (ge_mm q) h) (fun q h => (ge_mm q) h) (fun z_10 H_8 locs_5 hz_7 hF_9 hS_6 => ?_)
  have hzf_11 := hF_9.1
  obtain ⟨hv_12, ho_13⟩ := hz_7
  subst z_10
  refine kx_icmp_eq (x := gap) (y := gap) (tgt := 2493) hx hb dL_law_1362 (by decide) (by omega) (by omega) (by omega) (by omega) (fun cd9 => ?_) (fun cd9 => ?_)
  · -- taken at 1362
    have h_14 := hA_ra.fr hF_9 (n_mm_ra.sm)
    have h_15 := hA_sa.fr hF_9 (n_mm_sa.sm)
    have h_16 := hA_ka.fr hF_9 (n_mm_ka.sm)
    have h_17 := hA_ta.fr hF_9 (n_mm_ta.sm)
    have h_18 := hA_out.fr hF_9 (n_mm_out.sm)
    have h_19 := hA_outD.fr hF_9 (n_mm_outD.sm)
    have h_20 := hW.fr hd9 hF_9 (fun x => (ty_mm x))
    refine W.widen (k := cells + 50000) (n := slots + 228000) (by omega) (by omega) ?_
    have hM9 : kM D H_8 c0 out mm (S, gap) ((sl.map Prod.snd).head?) (hl2.map Prod.snd) t := ⟨ra, sa, ka, ta, _, _, _, _, _, _, _, _, _, _, _, _, ho_13, h_14, h_15, h_16, h_17, hMr, hMh, hMk, hMt, ht60, hMd, hMb, hMi⟩
    exact kk (S, gap) ((sl.map Prod.snd).head?) (hl2.map Prod.snd) t _ _ _ ⟨hS_6, lv_sub hl [0, 1, 2, 3, 4, 5] rfl, h_20, hM9, ⟨_, h_18⟩, ⟨_, h_19⟩, by omega, by omega⟩
  · -- not taken at 1362
    exfalso; omega

set_option maxHeartbeats 8000000 in
set_option maxRecDepth 100000 in
theorem lc_labels {p : Program} {e : Env} {s : State} {m : MethodId} {below : List Frame} {meth : Method} {c : Code} {l : Launch} {D : kG} {b L c0 c1 x1 mm out outD : Nat} {xs : Nat → Int32} {Q : State → Prop} (C0 : lwC D p l s m meth c b L c0 c1 out outD xs) {j : Nat} (hj : 3 * j + 3 ≤ L) {S : Ls} {gap : Int} {sn : Option Sg} {hs : List Sg} {t : List Int} {H : Heap} {locs : List Loc} {ls : Array Slot} (I0 : lwI D s b c0 c1 x1 mm out outD j j (S, gap) sn hs t H locs ls) {cells slots : Nat} (hcl : cells + 50000 ≤ 1200144) (hsl9 : slots + 228000 ≤ 5496058) (kk : ∀ (σ : Sg) (sn : Option Sg) (hs : List Sg) (t : List Int) (H : Heap) (locs : List Loc) (ls : Array Slot), lwI D s b c0 c1 x1 mm out outD j (j + 1) σ sn hs t H locs ls → W p l e lwR s m #[Value.ref b] below meth c H locs (cells + 50000) (slots + 228000) Q (F0 m 2493 ls [])) : W p l e lwR s m #[Value.ref b] below meth c H locs cells slots Q (F0 m 1367 ls []) := by
  obtain ⟨hx, hb, hml, hown, hts, hlk, hK, hl9, hX, hbl, hbs, hL72, hc0, hco, hod, hdc⟩ := C0
  obtain ⟨hS, hl, hW, hM, ⟨go, hA_out⟩, ⟨gd, hA_outD⟩, hc1, htl⟩ := I0
  have hB : ∀ q, (kNW s.heap) q → kBase D ≤ q := fun q h => Nat.le_trans hK.size h
  have hbA : ¬ (kNW s.heap) b := fun h => by have h9 : s.heap.size ≤ b := h; omega
  have hd9 := hK.dis
  have hxE : ¬ kBase D ≤ D.2.2.2 2 := hK.tE.out
  obtain ⟨z1, hz1⟩ : ∃ z, z = (xs (3 * j + 1)).toInt := ⟨_, rfl⟩
  obtain ⟨z2, hz2⟩ : ∃ z, z = (xs (3 * j + 2)).toInt := ⟨_, rfl⟩
  have hr1 : -2147483648 ≤ z1 ∧ z1 ≤ 2147483647 := by rw [hz1]; exact i32r _
  have hr2 : -2147483648 ≤ z2 ∧ z2 ≤ 2147483647 := by rw [hz2]; exact i32r _
  obtain ⟨⟨st, la, ea, F⟩, sl, hl2, hi, es, bu, vb, hO_x1, hDq, hTx, hX5, hev, hAl, hDj, hPw, hsl, hsn, hhs⟩ := id hW
  subst hsn
  subst hhs
  obtain ⟨ra, sa, ka, ta, nh, ik, th, sp9, iw, le9, fi9, se9, g, gs, gk, gt, hO_mm, hA_ra, hA_sa, hA_ka, hA_ta, hMr, hMh, hMk, hMt, ht60, hMd, hMb, hMi⟩ := id hM
  have hMr : MRow g S gap := hMr
  have h0 := hAl _ List.mem_cons_self
  have hP_kState_st : kState D H st la ea gap S F := h0.1
  have hok : LsOK S gap := h0.2.1
  have hG : StG S := h0.2.2.1
  have hL8 : S.length ≤ 8 := hok.1
  have hgp := hok.2.1
  have hO_x1 : kO D H x1 0 [.ref st, va_rf ((sl.map (fun a => a.1.1)).head?), .ref hi, .ref bu] := hO_x1
  have hOw : ∀ q, kOwn D st la ea F S.length q → q ∉ [x1, hi, es, bu, vb] ∧ (q < c0 ∨ c1 ≤ q) := h0.2.2.2
  have hev : Hd (es ≠ vb) := hev
  have io_x1 : ∀ x, c0 ≤ x → x < c1 → x ≠ x1 := fun x => out_of (hX5 x1 (by simp)).2
  have io_hi : ∀ x, c0 ≤ x → x < c1 → x ≠ hi := fun x => out_of (hX5 hi (by simp)).2
  have io_es : ∀ x, c0 ≤ x → x < c1 → x ≠ es := fun x => out_of (hX5 es (by simp)).2
  have io_bu : ∀ x, c0 ≤ x → x < c1 → x ≠ bu := fun x => out_of (hX5 bu (by simp)).2
  have io_vb : ∀ x, c0 ≤ x → x < c1 → x ≠ vb := fun x => out_of (hX5 vb (by simp)).2
  have b_x1 := (hX5 x1 (by simp)).1
  have b_hi := (hX5 hi (by simp)).1
  have b_es := (hX5 es (by simp)).1
  have b_bu := (hX5 bu (by simp)).1
  have b_vb := (hX5 vb (by simp)).1
  obtain ⟨⟨⟨n1, n2, n3, n4⟩, n5, n6, n7⟩, n8, n9, n10⟩ := hMd
  have n_mm_ra : Hd (mm ≠ ra) := n1
  have n_mm_sa : Hd (mm ≠ sa) := n2
  have n_mm_ka : Hd (mm ≠ ka) := n3
  have n_mm_ta : Hd (mm ≠ ta) := n4
  have n_ra_sa : Hd (ra ≠ sa) := n5
  have n_ra_ka : Hd (ra ≠ ka) := n6
  have n_ra_ta : Hd (ra ≠ ta) := n7
  have n_sa_ka : Hd (sa ≠ ka) := n8
  have n_sa_ta : Hd (sa ≠ ta) := n9
  have n_ka_ta : Hd (ka ≠ ta) := n10
  have hMd : Hd (((mm ≠ ra ∧ mm ≠ sa ∧ mm ≠ ka ∧ mm ≠ ta) ∧ ra ≠ sa ∧ ra ≠ ka ∧ ra ≠ ta) ∧ sa ≠ ka ∧ sa ≠ ta ∧ ka ≠ ta) := ⟨⟨⟨n1, n2, n3, n4⟩, n5, n6, n7⟩, n8, n9, n10⟩
  clear n1 n2 n3 n4 n5 n6 n7 n8 n9 n10
  obtain ⟨b_mm, b_ra, b_sa, b_ka, b_ta⟩ := id hMb
  obtain ⟨i_mm, i_ra, i_sa, i_ka, i_ta⟩ := id hMi
  have b_out : kBase D ≤ out := by omega
  have hcc : c0 ≤ c1 := by omega
  have w_mm : mm < c1 := by omega
  have n_mm_out : Hd (mm ≠ out) := Nat.ne_of_lt i_mm.2
  have n_mm_outD : Hd (mm ≠ outD) := Nat.ne_of_lt (Nat.lt_trans i_mm.2 hod)
  have w_ra : ra < c1 := by omega
  have n_ra_out : Hd (ra ≠ out) := Nat.ne_of_lt i_ra.2
  have n_ra_outD : Hd (ra ≠ outD) := Nat.ne_of_lt (Nat.lt_trans i_ra.2 hod)
  have w_sa : sa < c1 := by omega
  have n_sa_out : Hd (sa ≠ out) := Nat.ne_of_lt i_sa.2
  have n_sa_outD : Hd (sa ≠ outD) := Nat.ne_of_lt (Nat.lt_trans i_sa.2 hod)
  have w_ka : ka < c1 := by omega
  have n_ka_out : Hd (ka ≠ out) := Nat.ne_of_lt i_ka.2
  have n_ka_outD : Hd (ka ≠ outD) := Nat.ne_of_lt (Nat.lt_trans i_ka.2 hod)
  have w_ta : ta < c1 := by omega
  have n_ta_out : Hd (ta ≠ out) := Nat.ne_of_lt i_ta.2
  have n_ta_outD : Hd (ta ≠ outD) := Nat.ne_of_lt (Nat.lt_trans i_ta.2 hod)
  have ge_mm : ∀ q, q = mm → kNW s.heap q := fun q h => by rw [h]; show s.heap.size ≤ mm; omega
  have ge_ra : ∀ q, q = ra → kNW s.heap q := fun q h => by rw [h]; show s.heap.size ≤ ra; omega
  have ge_sa : ∀ q, q = sa → kNW s.heap q := fun q h => by rw [h]; show s.heap.size ≤ sa; omega
  have ge_ka : ∀ q, q = ka → kNW s.heap q := fun q h => by rw [h]; show s.heap.size ≤ ka; omega
  have ge_ta : ∀ q, q = ta → kNW s.heap q := fun q h => by rw [h]; show s.heap.size ≤ ta; omega
  have ge_out : ∀ q, q = out → kNW s.heap q := fun q h => by rw [h]; show s.heap.size ≤ out; omega
  have n_out_outD : Hd (out ≠ outD) := Nat.ne_of_lt hod
  have w_out : out < c1 := by omega
  have w_outD : outD < c1 := hdc
  have i_outD : c0 ≤ outD := by omega
  have htyo : kTy D H out := Or.inr ⟨2, _, by decide, hA_out⟩
  have htyd : kTy D H outD := Or.inr ⟨3, _, by decide, hA_outD⟩
  have to_out : ∀ x, x = out → H.size ≤ x ∨ (kTy D H x ∧ c0 ≤ x ∧ x < c1) := fun x h => by rw [h]; exact Or.inr ⟨htyo, hco, w_out⟩
  have to_outD : ∀ x, x = outD → H.size ≤ x ∨ (kTy D H x ∧ c0 ≤ x ∧ x < c1) := fun x h => by rw [h]; exact Or.inr ⟨htyd, i_outD, w_outD⟩
  obtain ⟨⟨hO_st, mc9, hO_la⟩, hLs9, hLn9, hF9, hDs9, hb1, hb2, hb3⟩ := id hP_kState_st
  have hr9 := st_lab_nn S
  refine lv_aload_n hx hb dL_law_1367 rfl (lv_at hl 1 rfl) ?_
  refine kx_ci0 (va_runV (As := []) (rest := []) ⟨hx, hb, hml, hown, hts⟩ (m_X1_labels l D H x1 ((sl.map (fun a => a.1.1)).head?) hi bu st la mc9 ea F S gap hO_x1 hO_st hO_la hLs9 hLn9 (by first | assumption | omega)) (cwV 0 hts (lw_V q1272 q1273 q1274 q79 q1275) rfl rfl rfl (by decide +kernel) ⟨Nat.le_of_ble_eq_true rfl, Nat.le_of_ble_eq_true rfl⟩) (kx_pv hK hS hB (kx_rc hK hO_x1 (C := RX1) (T := TX1) (N := 4) rfl)) rfl rfl hl.1 rfl (lv_room (Nat.le_of_ble_eq_true rfl)) dL_law_1368 ⟨by first | exact Nat.le_of_ble_eq_true rfl | omega | (dsimp only [lwR]; omega) | (show _ ≤ _; omega), by first | exact Nat.le_of_ble_eq_true rfl | omega | (dsimp only [lwR]; omega) | (show _ ≤ _; omega)⟩) hS (fun z_4 locs_1 hz_3 hS_2 => ?_)
  subst z_4
  refine lv_aload_n hx hb dL_law_1371 rfl (lv_at hl 2 rfl) ?_
  have ty_mm : ∀ x, x = mm → H.size ≤ x ∨ (kTy D H x ∧ c0 ≤ x ∧ x < c1) := fun x h => by rw [h]; exact Or.inr ⟨Or.inl ⟨2, _, by decide, by decide, by decide, hO_mm⟩, i_mm.1, w_mm⟩
  refine kx_ci (va_runV (As := []) (rest := [.int (kI (st_lab S))]) ⟨hx, hb, hml, hown, hts⟩ (m_X3_labels l D H mm ra sa ka ta nh ik t.length th sp9 iw le9 fi9 se9 g S gap hO_mm hA_ra (by first | assumption | omega) (by first | assumption | omega) n_mm_ra b_mm) (cwV 0 hts (lw_V q2508 q2509 q2510 q89 q2511) rfl rfl rfl (by decide +kernel) ⟨Nat.le_of_ble_eq_true rfl, Nat.le_of_ble_eq_true rfl⟩) (kx_pv hK hS_2 hB (kx_rc hK hO_mm (C := RX3) (T := TX3) (N := 13) rfl)) rfl rfl hl.1 rfl (lv_room (Nat.le_of_ble_eq_true rfl)) dL_law_1372 ⟨by first | exact Nat.le_of_ble_eq_true rfl | omega | (dsimp only [lwR]; omega) | (show _ ≤ _; omega), by first | exact Nat.le_of_ble_eq_true rfl | omega | (dsimp only [lwR]; omega) | (show _ ≤ _; omega)⟩) hS_2 (fun q _ h => (ge_mm q) h) (fun q h => (ge_mm q) h) (fun z_10 H_8 locs_5 hz_7 hF_9 hS_6 => ?_)
  have hzf_11 := hF_9.1
  obtain ⟨hv_12, ho_13⟩ := hz_7
  subst z_10
  refine kx_icmp_eq (x := st_lab S) (y := st_lab S) (tgt := 2493) hx hb dL_law_1375 (by decide) (by omega) (by omega) (by omega) (by omega) (fun cd9 => ?_) (fun cd9 => ?_)
  · -- taken at 1375
    have h_14 := hA_ra.fr hF_9 (n_mm_ra.sm)
    have h_15 := hA_sa.fr hF_9 (n_mm_sa.sm)
    have h_16 := hA_ka.fr hF_9 (n_mm_ka.sm)
    have h_17 := hA_ta.fr hF_9 (n_mm_ta.sm)
    have h_18 := hA_out.fr hF_9 (n_mm_out.sm)
    have h_19 := hA_outD.fr hF_9 (n_mm_outD.sm)
    have h_20 := hW.fr hd9 hF_9 (fun x => (ty_mm x))
    refine W.widen (k := cells + 50000) (n := slots + 228000) (by omega) (by omega) ?_
    have hM9 : kM D H_8 c0 out mm (S, gap) ((sl.map Prod.snd).head?) (hl2.map Prod.snd) t := ⟨ra, sa, ka, ta, _, _, _, _, _, _, _, _, _, _, _, _, ho_13, h_14, h_15, h_16, h_17, hMr, hMh, hMk, hMt, ht60, hMd, hMb, hMi⟩
    exact kk (S, gap) ((sl.map Prod.snd).head?) (hl2.map Prod.snd) t _ _ _ ⟨hS_6, lv_sub hl [0, 1, 2, 3, 4, 5] rfl, h_20, hM9, ⟨_, h_18⟩, ⟨_, h_19⟩, by omega, by omega⟩
  · -- not taken at 1375
    exfalso; omega

set_option maxHeartbeats 8000000 in
set_option maxRecDepth 100000 in
theorem lc_tooNear {p : Program} {e : Env} {s : State} {m : MethodId} {below : List Frame} {meth : Method} {c : Code} {l : Launch} {D : kG} {b L c0 c1 x1 mm out outD : Nat} {xs : Nat → Int32} {Q : State → Prop} (C0 : lwC D p l s m meth c b L c0 c1 out outD xs) {j : Nat} (hj : 3 * j + 3 ≤ L) {S : Ls} {gap : Int} {sn : Option Sg} {hs : List Sg} {t : List Int} {H : Heap} {locs : List Loc} {ls : Array Slot} (I0 : lwI D s b c0 c1 x1 mm out outD j j (S, gap) sn hs t H locs ls) {cells slots : Nat} (hcl : cells + 50000 ≤ 1200144) (hsl9 : slots + 228000 ≤ 5496058) (kk : ∀ (σ : Sg) (sn : Option Sg) (hs : List Sg) (t : List Int) (H : Heap) (locs : List Loc) (ls : Array Slot), lwI D s b c0 c1 x1 mm out outD j (j + 1) σ sn hs t H locs ls → W p l e lwR s m #[Value.ref b] below meth c H locs (cells + 50000) (slots + 228000) Q (F0 m 2493 ls [])) : W p l e lwR s m #[Value.ref b] below meth c H locs cells slots Q (F0 m 1859 ls []) := by
  obtain ⟨hx, hb, hml, hown, hts, hlk, hK, hl9, hX, hbl, hbs, hL72, hc0, hco, hod, hdc⟩ := C0
  obtain ⟨hS, hl, hW, hM, ⟨go, hA_out⟩, ⟨gd, hA_outD⟩, hc1, htl⟩ := I0
  have hB : ∀ q, (kNW s.heap) q → kBase D ≤ q := fun q h => Nat.le_trans hK.size h
  have hbA : ¬ (kNW s.heap) b := fun h => by have h9 : s.heap.size ≤ b := h; omega
  have hd9 := hK.dis
  have hxE : ¬ kBase D ≤ D.2.2.2 2 := hK.tE.out
  obtain ⟨z1, hz1⟩ : ∃ z, z = (xs (3 * j + 1)).toInt := ⟨_, rfl⟩
  obtain ⟨z2, hz2⟩ : ∃ z, z = (xs (3 * j + 2)).toInt := ⟨_, rfl⟩
  have hr1 : -2147483648 ≤ z1 ∧ z1 ≤ 2147483647 := by rw [hz1]; exact i32r _
  have hr2 : -2147483648 ≤ z2 ∧ z2 ≤ 2147483647 := by rw [hz2]; exact i32r _
  obtain ⟨⟨st, la, ea, F⟩, sl, hl2, hi, es, bu, vb, hO_x1, hDq, hTx, hX5, hev, hAl, hDj, hPw, hsl, hsn, hhs⟩ := id hW
  subst hsn
  subst hhs
  obtain ⟨ra, sa, ka, ta, nh, ik, th, sp9, iw, le9, fi9, se9, g, gs, gk, gt, hO_mm, hA_ra, hA_sa, hA_ka, hA_ta, hMr, hMh, hMk, hMt, ht60, hMd, hMb, hMi⟩ := id hM
  have hMr : MRow g S gap := hMr
  have h0 := hAl _ List.mem_cons_self
  have hP_kState_st : kState D H st la ea gap S F := h0.1
  have hok : LsOK S gap := h0.2.1
  have hG : StG S := h0.2.2.1
  have hL8 : S.length ≤ 8 := hok.1
  have hgp := hok.2.1
  have hO_x1 : kO D H x1 0 [.ref st, va_rf ((sl.map (fun a => a.1.1)).head?), .ref hi, .ref bu] := hO_x1
  have hOw : ∀ q, kOwn D st la ea F S.length q → q ∉ [x1, hi, es, bu, vb] ∧ (q < c0 ∨ c1 ≤ q) := h0.2.2.2
  have hev : Hd (es ≠ vb) := hev
  have io_x1 : ∀ x, c0 ≤ x → x < c1 → x ≠ x1 := fun x => out_of (hX5 x1 (by simp)).2
  have io_hi : ∀ x, c0 ≤ x → x < c1 → x ≠ hi := fun x => out_of (hX5 hi (by simp)).2
  have io_es : ∀ x, c0 ≤ x → x < c1 → x ≠ es := fun x => out_of (hX5 es (by simp)).2
  have io_bu : ∀ x, c0 ≤ x → x < c1 → x ≠ bu := fun x => out_of (hX5 bu (by simp)).2
  have io_vb : ∀ x, c0 ≤ x → x < c1 → x ≠ vb := fun x => out_of (hX5 vb (by simp)).2
  have b_x1 := (hX5 x1 (by simp)).1
  have b_hi := (hX5 hi (by simp)).1
  have b_es := (hX5 es (by simp)).1
  have b_bu := (hX5 bu (by simp)).1
  have b_vb := (hX5 vb (by simp)).1
  obtain ⟨⟨⟨n1, n2, n3, n4⟩, n5, n6, n7⟩, n8, n9, n10⟩ := hMd
  have n_mm_ra : Hd (mm ≠ ra) := n1
  have n_mm_sa : Hd (mm ≠ sa) := n2
  have n_mm_ka : Hd (mm ≠ ka) := n3
  have n_mm_ta : Hd (mm ≠ ta) := n4
  have n_ra_sa : Hd (ra ≠ sa) := n5
  have n_ra_ka : Hd (ra ≠ ka) := n6
  have n_ra_ta : Hd (ra ≠ ta) := n7
  have n_sa_ka : Hd (sa ≠ ka) := n8
  have n_sa_ta : Hd (sa ≠ ta) := n9
  have n_ka_ta : Hd (ka ≠ ta) := n10
  have hMd : Hd (((mm ≠ ra ∧ mm ≠ sa ∧ mm ≠ ka ∧ mm ≠ ta) ∧ ra ≠ sa ∧ ra ≠ ka ∧ ra ≠ ta) ∧ sa ≠ ka ∧ sa ≠ ta ∧ ka ≠ ta) := ⟨⟨⟨n1, n2, n3, n4⟩, n5, n6, n7⟩, n8, n9, n10⟩
  clear n1 n2 n3 n4 n5 n6 n7 n8 n9 n10
  obtain ⟨b_mm, b_ra, b_sa, b_ka, b_ta⟩ := id hMb
  obtain ⟨i_mm, i_ra, i_sa, i_ka, i_ta⟩ := id hMi
  have b_out : kBase D ≤ out := by omega
  have hcc : c0 ≤ c1 := by omega
  have w_mm : mm < c1 := by omega
  have n_mm_out : Hd (mm ≠ out) := Nat.ne_of_lt i_mm.2
  have n_mm_outD : Hd (mm ≠ outD) := Nat.ne_of_lt (Nat.lt_trans i_mm.2 hod)
  have w_ra : ra < c1 := by omega
  have n_ra_out : Hd (ra ≠ out) := Nat.ne_of_lt i_ra.2
  have n_ra_outD : Hd (ra ≠ outD) := Nat.ne_of_lt (Nat.lt_trans i_ra.2 hod)
  have w_sa : sa < c1 := by omega
  have n_sa_out : Hd (sa ≠ out) := Nat.ne_of_lt i_sa.2
  have n_sa_outD : Hd (sa ≠ outD) := Nat.ne_of_lt (Nat.lt_trans i_sa.2 hod)
  have w_ka : ka < c1 := by omega
  have n_ka_out : Hd (ka ≠ out) := Nat.ne_of_lt i_ka.2
  have n_ka_outD : Hd (ka ≠ outD) := Nat.ne_of_lt (Nat.lt_trans i_ka.2 hod)
  have w_ta : ta < c1 := by omega
  have n_ta_out : Hd (ta ≠ out) := Nat.ne_of_lt i_ta.2
  have n_ta_outD : Hd (ta ≠ outD) := Nat.ne_of_lt (Nat.lt_trans i_ta.2 hod)
  have ge_mm : ∀ q, q = mm → kNW s.heap q := fun q h => by rw [h]; show s.heap.size ≤ mm; omega
  have ge_ra : ∀ q, q = ra → kNW s.heap q := fun q h => by rw [h]; show s.heap.size ≤ ra; omega
  have ge_sa : ∀ q, q = sa → kNW s.heap q := fun q h => by rw [h]; show s.heap.size ≤ sa; omega
  have ge_ka : ∀ q, q = ka → kNW s.heap q := fun q h => by rw [h]; show s.heap.size ≤ ka; omega
  have ge_ta : ∀ q, q = ta → kNW s.heap q := fun q h => by rw [h]; show s.heap.size ≤ ta; omega
  have ge_out : ∀ q, q = out → kNW s.heap q := fun q h => by rw [h]; show s.heap.size ≤ out; omega
  have n_out_outD : Hd (out ≠ outD) := Nat.ne_of_lt hod
  have w_out : out < c1 := by omega
  have w_outD : outD < c1 := hdc
  have i_outD : c0 ≤ outD := by omega
  have htyo : kTy D H out := Or.inr ⟨2, _, by decide, hA_out⟩
  have htyd : kTy D H outD := Or.inr ⟨3, _, by decide, hA_outD⟩
  have to_out : ∀ x, x = out → H.size ≤ x ∨ (kTy D H x ∧ c0 ≤ x ∧ x < c1) := fun x h => by rw [h]; exact Or.inr ⟨htyo, hco, w_out⟩
  have to_outD : ∀ x, x = outD → H.size ≤ x ∨ (kTy D H x ∧ c0 ≤ x ∧ x < c1) := fun x h => by rw [h]; exact Or.inr ⟨htyd, i_outD, w_outD⟩
  obtain ⟨⟨hO_st, mc9, hO_la⟩, hLs9, hLn9, hF9, hDs9, hb1, hb2, hb3⟩ := id hP_kState_st
  have hr9 := st_near_rng hok
  refine lv_aload_n hx hb dL_law_1859 rfl (lv_at hl 1 rfl) ?_
  refine kx_ci0 (va_runV (As := []) (rest := []) ⟨hx, hb, hml, hown, hts⟩ (m_X1_tooNear l D H x1 ((sl.map (fun a => a.1.1)).head?) hi bu st la mc9 ea F S gap hO_x1 hO_st hO_la hLs9 hLn9 (by first | assumption | omega)) (cwV 0 hts (lw_V q1280 q1281 q1282 q79 q1283) rfl rfl rfl (by decide +kernel) ⟨Nat.le_of_ble_eq_true rfl, Nat.le_of_ble_eq_true rfl⟩) (kx_pv hK hS hB (kx_rc hK hO_x1 (C := RX1) (T := TX1) (N := 4) rfl)) rfl rfl hl.1 rfl (lv_room (Nat.le_of_ble_eq_true rfl)) dL_law_1860 ⟨by first | exact Nat.le_of_ble_eq_true rfl | omega | (dsimp only [lwR]; omega) | (show _ ≤ _; omega), by first | exact Nat.le_of_ble_eq_true rfl | omega | (dsimp only [lwR]; omega) | (show _ ≤ _; omega)⟩) hS (fun z_4 locs_1 hz_3 hS_2 => ?_)
  subst z_4
  refine lv_aload_n hx hb dL_law_1863 rfl (lv_at hl 2 rfl) ?_
  have ty_mm : ∀ x, x = mm → H.size ≤ x ∨ (kTy D H x ∧ c0 ≤ x ∧ x < c1) := fun x h => by rw [h]; exact Or.inr ⟨Or.inl ⟨2, _, by decide, by decide, by decide, hO_mm⟩, i_mm.1, w_mm⟩
  refine kx_ci (va_runV (As := []) (rest := [.int (kI (st_near S gap))]) ⟨hx, hb, hml, hown, hts⟩ (m_X3_tooNear l D H mm ra sa ka ta nh ik t.length th sp9 iw le9 fi9 se9 g S gap hO_mm hA_ra (by first | assumption | omega) (by first | assumption | omega) n_mm_ra b_mm) (cwV 0 hts (lw_V q2552 q2553 q2554 q89 q2555) rfl rfl rfl (by decide +kernel) ⟨Nat.le_of_ble_eq_true rfl, Nat.le_of_ble_eq_true rfl⟩) (kx_pv hK hS_2 hB (kx_rc hK hO_mm (C := RX3) (T := TX3) (N := 13) rfl)) rfl rfl hl.1 rfl (lv_room (Nat.le_of_ble_eq_true rfl)) dL_law_1864 ⟨by first | exact Nat.le_of_ble_eq_true rfl | omega | (dsimp only [lwR]; omega) | (show _ ≤ _; omega), by first | exact Nat.le_of_ble_eq_true rfl | omega | (dsimp only [lwR]; omega) | (show _ ≤ _; omega)⟩) hS_2 (fun q _ h => (ge_mm q) h) (fun q h => (ge_mm q) h) (fun z_10 H_8 locs_5 hz_7 hF_9 hS_6 => ?_)
  have hzf_11 := hF_9.1
  obtain ⟨hv_12, ho_13⟩ := hz_7
  subst z_10
  refine kx_icmp_eq (x := st_near S gap) (y := st_near S gap) (tgt := 2493) hx hb dL_law_1867 (by decide) (by omega) (by omega) (by omega) (by omega) (fun cd9 => ?_) (fun cd9 => ?_)
  · -- taken at 1867
    have h_14 := hA_ra.fr hF_9 (n_mm_ra.sm)
    have h_15 := hA_sa.fr hF_9 (n_mm_sa.sm)
    have h_16 := hA_ka.fr hF_9 (n_mm_ka.sm)
    have h_17 := hA_ta.fr hF_9 (n_mm_ta.sm)
    have h_18 := hA_out.fr hF_9 (n_mm_out.sm)
    have h_19 := hA_outD.fr hF_9 (n_mm_outD.sm)
    have h_20 := hW.fr hd9 hF_9 (fun x => (ty_mm x))
    refine W.widen (k := cells + 50000) (n := slots + 228000) (by omega) (by omega) ?_
    have hM9 : kM D H_8 c0 out mm (S, gap) ((sl.map Prod.snd).head?) (hl2.map Prod.snd) t := ⟨ra, sa, ka, ta, _, _, _, _, _, _, _, _, _, _, _, _, ho_13, h_14, h_15, h_16, h_17, hMr, hMh, hMk, hMt, ht60, hMd, hMb, hMi⟩
    exact kk (S, gap) ((sl.map Prod.snd).head?) (hl2.map Prod.snd) t _ _ _ ⟨hS_6, lv_sub hl [0, 1, 2, 3, 4, 5] rfl, h_20, hM9, ⟨_, h_18⟩, ⟨_, h_19⟩, by omega, by omega⟩
  · -- not taken at 1867
    exfalso; omega

set_option maxHeartbeats 8000000 in
set_option maxRecDepth 100000 in
theorem lc_savedStates {p : Program} {e : Env} {s : State} {m : MethodId} {below : List Frame} {meth : Method} {c : Code} {l : Launch} {D : kG} {b L c0 c1 x1 mm out outD : Nat} {xs : Nat → Int32} {Q : State → Prop} (C0 : lwC D p l s m meth c b L c0 c1 out outD xs) {j : Nat} (hj : 3 * j + 3 ≤ L) {S : Ls} {gap : Int} {sn : Option Sg} {hs : List Sg} {t : List Int} {H : Heap} {locs : List Loc} {ls : Array Slot} (I0 : lwI D s b c0 c1 x1 mm out outD j j (S, gap) sn hs t H locs ls) {cells slots : Nat} (hcl : cells + 50000 ≤ 1200144) (hsl9 : slots + 228000 ≤ 5496058) (kk : ∀ (σ : Sg) (sn : Option Sg) (hs : List Sg) (t : List Int) (H : Heap) (locs : List Loc) (ls : Array Slot), lwI D s b c0 c1 x1 mm out outD j (j + 1) σ sn hs t H locs ls → W p l e lwR s m #[Value.ref b] below meth c H locs (cells + 50000) (slots + 228000) Q (F0 m 2493 ls [])) : W p l e lwR s m #[Value.ref b] below meth c H locs cells slots Q (F0 m 2423 ls []) := by
  obtain ⟨hx, hb, hml, hown, hts, hlk, hK, hl9, hX, hbl, hbs, hL72, hc0, hco, hod, hdc⟩ := C0
  obtain ⟨hS, hl, hW, hM, ⟨go, hA_out⟩, ⟨gd, hA_outD⟩, hc1, htl⟩ := I0
  have hB : ∀ q, (kNW s.heap) q → kBase D ≤ q := fun q h => Nat.le_trans hK.size h
  have hbA : ¬ (kNW s.heap) b := fun h => by have h9 : s.heap.size ≤ b := h; omega
  have hd9 := hK.dis
  have hxE : ¬ kBase D ≤ D.2.2.2 2 := hK.tE.out
  obtain ⟨z1, hz1⟩ : ∃ z, z = (xs (3 * j + 1)).toInt := ⟨_, rfl⟩
  obtain ⟨z2, hz2⟩ : ∃ z, z = (xs (3 * j + 2)).toInt := ⟨_, rfl⟩
  have hr1 : -2147483648 ≤ z1 ∧ z1 ≤ 2147483647 := by rw [hz1]; exact i32r _
  have hr2 : -2147483648 ≤ z2 ∧ z2 ≤ 2147483647 := by rw [hz2]; exact i32r _
  obtain ⟨⟨st, la, ea, F⟩, sl, hl2, hi, es, bu, vb, hO_x1, hDq, hTx, hX5, hev, hAl, hDj, hPw, hsl, hsn, hhs⟩ := id hW
  subst hsn
  subst hhs
  obtain ⟨ra, sa, ka, ta, nh, ik, th, sp9, iw, le9, fi9, se9, g, gs, gk, gt, hO_mm, hA_ra, hA_sa, hA_ka, hA_ta, hMr, hMh, hMk, hMt, ht60, hMd, hMb, hMi⟩ := id hM
  have hMr : MRow g S gap := hMr
  have h0 := hAl _ List.mem_cons_self
  have hP_kState_st : kState D H st la ea gap S F := h0.1
  have hok : LsOK S gap := h0.2.1
  have hG : StG S := h0.2.2.1
  have hL8 : S.length ≤ 8 := hok.1
  have hgp := hok.2.1
  have hO_x1 : kO D H x1 0 [.ref st, va_rf ((sl.map (fun a => a.1.1)).head?), .ref hi, .ref bu] := hO_x1
  have hOw : ∀ q, kOwn D st la ea F S.length q → q ∉ [x1, hi, es, bu, vb] ∧ (q < c0 ∨ c1 ≤ q) := h0.2.2.2
  have hev : Hd (es ≠ vb) := hev
  have io_x1 : ∀ x, c0 ≤ x → x < c1 → x ≠ x1 := fun x => out_of (hX5 x1 (by simp)).2
  have io_hi : ∀ x, c0 ≤ x → x < c1 → x ≠ hi := fun x => out_of (hX5 hi (by simp)).2
  have io_es : ∀ x, c0 ≤ x → x < c1 → x ≠ es := fun x => out_of (hX5 es (by simp)).2
  have io_bu : ∀ x, c0 ≤ x → x < c1 → x ≠ bu := fun x => out_of (hX5 bu (by simp)).2
  have io_vb : ∀ x, c0 ≤ x → x < c1 → x ≠ vb := fun x => out_of (hX5 vb (by simp)).2
  have b_x1 := (hX5 x1 (by simp)).1
  have b_hi := (hX5 hi (by simp)).1
  have b_es := (hX5 es (by simp)).1
  have b_bu := (hX5 bu (by simp)).1
  have b_vb := (hX5 vb (by simp)).1
  obtain ⟨⟨⟨n1, n2, n3, n4⟩, n5, n6, n7⟩, n8, n9, n10⟩ := hMd
  have n_mm_ra : Hd (mm ≠ ra) := n1
  have n_mm_sa : Hd (mm ≠ sa) := n2
  have n_mm_ka : Hd (mm ≠ ka) := n3
  have n_mm_ta : Hd (mm ≠ ta) := n4
  have n_ra_sa : Hd (ra ≠ sa) := n5
  have n_ra_ka : Hd (ra ≠ ka) := n6
  have n_ra_ta : Hd (ra ≠ ta) := n7
  have n_sa_ka : Hd (sa ≠ ka) := n8
  have n_sa_ta : Hd (sa ≠ ta) := n9
  have n_ka_ta : Hd (ka ≠ ta) := n10
  have hMd : Hd (((mm ≠ ra ∧ mm ≠ sa ∧ mm ≠ ka ∧ mm ≠ ta) ∧ ra ≠ sa ∧ ra ≠ ka ∧ ra ≠ ta) ∧ sa ≠ ka ∧ sa ≠ ta ∧ ka ≠ ta) := ⟨⟨⟨n1, n2, n3, n4⟩, n5, n6, n7⟩, n8, n9, n10⟩
  clear n1 n2 n3 n4 n5 n6 n7 n8 n9 n10
  obtain ⟨b_mm, b_ra, b_sa, b_ka, b_ta⟩ := id hMb
  obtain ⟨i_mm, i_ra, i_sa, i_ka, i_ta⟩ := id hMi
  have b_out : kBase D ≤ out := by omega
  have hcc : c0 ≤ c1 := by omega
  have w_mm : mm < c1 := by omega
  have n_mm_out : Hd (mm ≠ out) := Nat.ne_of_lt i_mm.2
  have n_mm_outD : Hd (mm ≠ outD) := Nat.ne_of_lt (Nat.lt_trans i_mm.2 hod)
  have w_ra : ra < c1 := by omega
  have n_ra_out : Hd (ra ≠ out) := Nat.ne_of_lt i_ra.2
  have n_ra_outD : Hd (ra ≠ outD) := Nat.ne_of_lt (Nat.lt_trans i_ra.2 hod)
  have w_sa : sa < c1 := by omega
  have n_sa_out : Hd (sa ≠ out) := Nat.ne_of_lt i_sa.2
  have n_sa_outD : Hd (sa ≠ outD) := Nat.ne_of_lt (Nat.lt_trans i_sa.2 hod)
  have w_ka : ka < c1 := by omega
  have n_ka_out : Hd (ka ≠ out) := Nat.ne_of_lt i_ka.2
  have n_ka_outD : Hd (ka ≠ outD) := Nat.ne_of_lt (Nat.lt_trans i_ka.2 hod)
  have w_ta : ta < c1 := by omega
  have n_ta_out : Hd (ta ≠ out) := Nat.ne_of_lt i_ta.2
  have n_ta_outD : Hd (ta ≠ outD) := Nat.ne_of_lt (Nat.lt_trans i_ta.2 hod)
  have ge_mm : ∀ q, q = mm → kNW s.heap q := fun q h => by rw [h]; show s.heap.size ≤ mm; omega
  have ge_ra : ∀ q, q = ra → kNW s.heap q := fun q h => by rw [h]; show s.heap.size ≤ ra; omega
  have ge_sa : ∀ q, q = sa → kNW s.heap q := fun q h => by rw [h]; show s.heap.size ≤ sa; omega
  have ge_ka : ∀ q, q = ka → kNW s.heap q := fun q h => by rw [h]; show s.heap.size ≤ ka; omega
  have ge_ta : ∀ q, q = ta → kNW s.heap q := fun q h => by rw [h]; show s.heap.size ≤ ta; omega
  have ge_out : ∀ q, q = out → kNW s.heap q := fun q h => by rw [h]; show s.heap.size ≤ out; omega
  have n_out_outD : Hd (out ≠ outD) := Nat.ne_of_lt hod
  have w_out : out < c1 := by omega
  have w_outD : outD < c1 := hdc
  have i_outD : c0 ≤ outD := by omega
  have htyo : kTy D H out := Or.inr ⟨2, _, by decide, hA_out⟩
  have htyd : kTy D H outD := Or.inr ⟨3, _, by decide, hA_outD⟩
  have to_out : ∀ x, x = out → H.size ≤ x ∨ (kTy D H x ∧ c0 ≤ x ∧ x < c1) := fun x h => by rw [h]; exact Or.inr ⟨htyo, hco, w_out⟩
  have to_outD : ∀ x, x = outD → H.size ≤ x ∨ (kTy D H x ∧ c0 ≤ x ∧ x < c1) := fun x h => by rw [h]; exact Or.inr ⟨htyd, i_outD, w_outD⟩
  obtain ⟨⟨hO_st, mc9, hO_la⟩, hLs9, hLn9, hF9, hDs9, hb1, hb2, hb3⟩ := id hP_kState_st
  have hn9 := hMh.1
  have hn8 := hMh.2.1
  rw [List.length_map] at hn9
  have hm9 : (hl2.map (fun a => a.1.1)).length = hl2.length := List.length_map _
  refine lv_aload_n hx hb dL_law_2423 rfl (lv_at hl 1 rfl) ?_
  refine kx_ci0 (va_runV (As := []) (rest := []) ⟨hx, hb, hml, hown, hts⟩ (m_X1_savedStates l D H x1 st ((sl.map (fun a => a.1.1)).head?) hi bu es ((hl2.map (fun a => a.1.1))) hO_x1 hDq ) (cwV 0 hts (lw_V q1797 q1798 q1799 q79 q1800) rfl rfl rfl (by decide +kernel) ⟨Nat.le_of_ble_eq_true rfl, Nat.le_of_ble_eq_true rfl⟩) (kx_pv hK hS hB (kx_rc hK hO_x1 (C := RX1) (T := TX1) (N := 4) rfl)) rfl rfl hl.1 rfl (lv_room (Nat.le_of_ble_eq_true rfl)) dL_law_2424 ⟨by first | exact Nat.le_of_ble_eq_true rfl | omega | (dsimp only [lwR]; omega) | (show _ ≤ _; omega), by first | exact Nat.le_of_ble_eq_true rfl | omega | (dsimp only [lwR]; omega) | (show _ ≤ _; omega)⟩) hS (fun z_4 locs_1 hz_3 hS_2 => ?_)
  subst z_4
  refine lv_aload_n hx hb dL_law_2427 rfl (lv_at hl 2 rfl) ?_
  have ty_mm : ∀ x, x = mm → H.size ≤ x ∨ (kTy D H x ∧ c0 ≤ x ∧ x < c1) := fun x h => by rw [h]; exact Or.inr ⟨Or.inl ⟨2, _, by decide, by decide, by decide, hO_mm⟩, i_mm.1, w_mm⟩
  refine kx_ci (va_runV (As := []) (rest := [.int (kI ((((hl2.map (fun a => a.1.1))).length : Nat) : Int))]) ⟨hx, hb, hml, hown, hts⟩ (m_X3_savedStates l D H mm ra sa ka ta nh ik t.length th sp9 iw le9 fi9 se9 hO_mm b_mm) (cwV 0 hts (lw_V q2633 q2634 q2635 q89 q2636) rfl rfl rfl (by decide +kernel) ⟨Nat.le_of_ble_eq_true rfl, Nat.le_of_ble_eq_true rfl⟩) (kx_pv hK hS_2 hB (kx_rc hK hO_mm (C := RX3) (T := TX3) (N := 13) rfl)) rfl rfl hl.1 rfl (lv_room (Nat.le_of_ble_eq_true rfl)) dL_law_2428 ⟨by first | exact Nat.le_of_ble_eq_true rfl | omega | (dsimp only [lwR]; omega) | (show _ ≤ _; omega), by first | exact Nat.le_of_ble_eq_true rfl | omega | (dsimp only [lwR]; omega) | (show _ ≤ _; omega)⟩) hS_2 (fun q _ h => (ge_mm q) h) (fun q h => (ge_mm q) h) (fun z_10 H_8 locs_5 hz_7 hF_9 hS_6 => ?_)
  have hzf_11 := hF_9.1
  obtain ⟨hv_12, ho_13⟩ := hz_7
  subst z_10
  refine kx_icmp_eq (x := ((((hl2.map (fun a => a.1.1))).length : Nat) : Int)) (y := ((nh : Nat) : Int)) (tgt := 2493) hx hb dL_law_2431 (by decide) (by omega) (by omega) (by omega) (by omega) (fun cd9 => ?_) (fun cd9 => ?_)
  · -- taken at 2431
    have h_14 := hA_ra.fr hF_9 (n_mm_ra.sm)
    have h_15 := hA_sa.fr hF_9 (n_mm_sa.sm)
    have h_16 := hA_ka.fr hF_9 (n_mm_ka.sm)
    have h_17 := hA_ta.fr hF_9 (n_mm_ta.sm)
    have h_18 := hA_out.fr hF_9 (n_mm_out.sm)
    have h_19 := hA_outD.fr hF_9 (n_mm_outD.sm)
    have h_20 := hW.fr hd9 hF_9 (fun x => (ty_mm x))
    refine W.widen (k := cells + 50000) (n := slots + 228000) (by omega) (by omega) ?_
    have hM9 : kM D H_8 c0 out mm (S, gap) ((sl.map Prod.snd).head?) (hl2.map Prod.snd) t := ⟨ra, sa, ka, ta, _, _, _, _, _, _, _, _, _, _, _, _, ho_13, h_14, h_15, h_16, h_17, hMr, hMh, hMk, hMt, ht60, hMd, hMb, hMi⟩
    exact kk (S, gap) ((sl.map Prod.snd).head?) (hl2.map Prod.snd) t _ _ _ ⟨hS_6, lv_sub hl [0, 1, 2, 3, 4, 5] rfl, h_20, hM9, ⟨_, h_18⟩, ⟨_, h_19⟩, by omega, by omega⟩
  · -- not taken at 2431
    exfalso; omega

set_option maxHeartbeats 8000000 in
set_option maxRecDepth 100000 in
theorem lc_errorPosition {p : Program} {e : Env} {s : State} {m : MethodId} {below : List Frame} {meth : Method} {c : Code} {l : Launch} {D : kG} {b L c0 c1 x1 mm out outD : Nat} {xs : Nat → Int32} {Q : State → Prop} (C0 : lwC D p l s m meth c b L c0 c1 out outD xs) {j : Nat} (hj : 3 * j + 3 ≤ L) {S : Ls} {gap : Int} {sn : Option Sg} {hs : List Sg} {t : List Int} {H : Heap} {locs : List Loc} {ls : Array Slot} (I0 : lwI D s b c0 c1 x1 mm out outD j j (S, gap) sn hs t H locs ls) {cells slots : Nat} (hcl : cells + 50000 ≤ 1200144) (hsl9 : slots + 228000 ≤ 5496058) (kk : ∀ (σ : Sg) (sn : Option Sg) (hs : List Sg) (t : List Int) (H : Heap) (locs : List Loc) (ls : Array Slot), lwI D s b c0 c1 x1 mm out outD j (j + 1) σ sn hs t H locs ls → W p l e lwR s m #[Value.ref b] below meth c H locs (cells + 50000) (slots + 228000) Q (F0 m 2493 ls [])) : W p l e lwR s m #[Value.ref b] below meth c H locs cells slots Q (F0 m 2322 ls []) := by
  obtain ⟨hx, hb, hml, hown, hts, hlk, hK, hl9, hX, hbl, hbs, hL72, hc0, hco, hod, hdc⟩ := C0
  obtain ⟨hS, hl, hW, hM, ⟨go, hA_out⟩, ⟨gd, hA_outD⟩, hc1, htl⟩ := I0
  have hB : ∀ q, (kNW s.heap) q → kBase D ≤ q := fun q h => Nat.le_trans hK.size h
  have hbA : ¬ (kNW s.heap) b := fun h => by have h9 : s.heap.size ≤ b := h; omega
  have hd9 := hK.dis
  have hxE : ¬ kBase D ≤ D.2.2.2 2 := hK.tE.out
  obtain ⟨z1, hz1⟩ : ∃ z, z = (xs (3 * j + 1)).toInt := ⟨_, rfl⟩
  obtain ⟨z2, hz2⟩ : ∃ z, z = (xs (3 * j + 2)).toInt := ⟨_, rfl⟩
  have hr1 : -2147483648 ≤ z1 ∧ z1 ≤ 2147483647 := by rw [hz1]; exact i32r _
  have hr2 : -2147483648 ≤ z2 ∧ z2 ≤ 2147483647 := by rw [hz2]; exact i32r _
  obtain ⟨⟨st, la, ea, F⟩, sl, hl2, hi, es, bu, vb, hO_x1, hDq, hTx, hX5, hev, hAl, hDj, hPw, hsl, hsn, hhs⟩ := id hW
  subst hsn
  subst hhs
  obtain ⟨ra, sa, ka, ta, nh, ik, th, sp9, iw, le9, fi9, se9, g, gs, gk, gt, hO_mm, hA_ra, hA_sa, hA_ka, hA_ta, hMr, hMh, hMk, hMt, ht60, hMd, hMb, hMi⟩ := id hM
  have hMr : MRow g S gap := hMr
  have h0 := hAl _ List.mem_cons_self
  have hP_kState_st : kState D H st la ea gap S F := h0.1
  have hok : LsOK S gap := h0.2.1
  have hG : StG S := h0.2.2.1
  have hL8 : S.length ≤ 8 := hok.1
  have hgp := hok.2.1
  have hO_x1 : kO D H x1 0 [.ref st, va_rf ((sl.map (fun a => a.1.1)).head?), .ref hi, .ref bu] := hO_x1
  have hOw : ∀ q, kOwn D st la ea F S.length q → q ∉ [x1, hi, es, bu, vb] ∧ (q < c0 ∨ c1 ≤ q) := h0.2.2.2
  have hev : Hd (es ≠ vb) := hev
  have io_x1 : ∀ x, c0 ≤ x → x < c1 → x ≠ x1 := fun x => out_of (hX5 x1 (by simp)).2
  have io_hi : ∀ x, c0 ≤ x → x < c1 → x ≠ hi := fun x => out_of (hX5 hi (by simp)).2
  have io_es : ∀ x, c0 ≤ x → x < c1 → x ≠ es := fun x => out_of (hX5 es (by simp)).2
  have io_bu : ∀ x, c0 ≤ x → x < c1 → x ≠ bu := fun x => out_of (hX5 bu (by simp)).2
  have io_vb : ∀ x, c0 ≤ x → x < c1 → x ≠ vb := fun x => out_of (hX5 vb (by simp)).2
  have b_x1 := (hX5 x1 (by simp)).1
  have b_hi := (hX5 hi (by simp)).1
  have b_es := (hX5 es (by simp)).1
  have b_bu := (hX5 bu (by simp)).1
  have b_vb := (hX5 vb (by simp)).1
  obtain ⟨⟨⟨n1, n2, n3, n4⟩, n5, n6, n7⟩, n8, n9, n10⟩ := hMd
  have n_mm_ra : Hd (mm ≠ ra) := n1
  have n_mm_sa : Hd (mm ≠ sa) := n2
  have n_mm_ka : Hd (mm ≠ ka) := n3
  have n_mm_ta : Hd (mm ≠ ta) := n4
  have n_ra_sa : Hd (ra ≠ sa) := n5
  have n_ra_ka : Hd (ra ≠ ka) := n6
  have n_ra_ta : Hd (ra ≠ ta) := n7
  have n_sa_ka : Hd (sa ≠ ka) := n8
  have n_sa_ta : Hd (sa ≠ ta) := n9
  have n_ka_ta : Hd (ka ≠ ta) := n10
  have hMd : Hd (((mm ≠ ra ∧ mm ≠ sa ∧ mm ≠ ka ∧ mm ≠ ta) ∧ ra ≠ sa ∧ ra ≠ ka ∧ ra ≠ ta) ∧ sa ≠ ka ∧ sa ≠ ta ∧ ka ≠ ta) := ⟨⟨⟨n1, n2, n3, n4⟩, n5, n6, n7⟩, n8, n9, n10⟩
  clear n1 n2 n3 n4 n5 n6 n7 n8 n9 n10
  obtain ⟨b_mm, b_ra, b_sa, b_ka, b_ta⟩ := id hMb
  obtain ⟨i_mm, i_ra, i_sa, i_ka, i_ta⟩ := id hMi
  have b_out : kBase D ≤ out := by omega
  have hcc : c0 ≤ c1 := by omega
  have w_mm : mm < c1 := by omega
  have n_mm_out : Hd (mm ≠ out) := Nat.ne_of_lt i_mm.2
  have n_mm_outD : Hd (mm ≠ outD) := Nat.ne_of_lt (Nat.lt_trans i_mm.2 hod)
  have w_ra : ra < c1 := by omega
  have n_ra_out : Hd (ra ≠ out) := Nat.ne_of_lt i_ra.2
  have n_ra_outD : Hd (ra ≠ outD) := Nat.ne_of_lt (Nat.lt_trans i_ra.2 hod)
  have w_sa : sa < c1 := by omega
  have n_sa_out : Hd (sa ≠ out) := Nat.ne_of_lt i_sa.2
  have n_sa_outD : Hd (sa ≠ outD) := Nat.ne_of_lt (Nat.lt_trans i_sa.2 hod)
  have w_ka : ka < c1 := by omega
  have n_ka_out : Hd (ka ≠ out) := Nat.ne_of_lt i_ka.2
  have n_ka_outD : Hd (ka ≠ outD) := Nat.ne_of_lt (Nat.lt_trans i_ka.2 hod)
  have w_ta : ta < c1 := by omega
  have n_ta_out : Hd (ta ≠ out) := Nat.ne_of_lt i_ta.2
  have n_ta_outD : Hd (ta ≠ outD) := Nat.ne_of_lt (Nat.lt_trans i_ta.2 hod)
  have ge_mm : ∀ q, q = mm → kNW s.heap q := fun q h => by rw [h]; show s.heap.size ≤ mm; omega
  have ge_ra : ∀ q, q = ra → kNW s.heap q := fun q h => by rw [h]; show s.heap.size ≤ ra; omega
  have ge_sa : ∀ q, q = sa → kNW s.heap q := fun q h => by rw [h]; show s.heap.size ≤ sa; omega
  have ge_ka : ∀ q, q = ka → kNW s.heap q := fun q h => by rw [h]; show s.heap.size ≤ ka; omega
  have ge_ta : ∀ q, q = ta → kNW s.heap q := fun q h => by rw [h]; show s.heap.size ≤ ta; omega
  have ge_out : ∀ q, q = out → kNW s.heap q := fun q h => by rw [h]; show s.heap.size ≤ out; omega
  have n_out_outD : Hd (out ≠ outD) := Nat.ne_of_lt hod
  have w_out : out < c1 := by omega
  have w_outD : outD < c1 := hdc
  have i_outD : c0 ≤ outD := by omega
  have htyo : kTy D H out := Or.inr ⟨2, _, by decide, hA_out⟩
  have htyd : kTy D H outD := Or.inr ⟨3, _, by decide, hA_outD⟩
  have to_out : ∀ x, x = out → H.size ≤ x ∨ (kTy D H x ∧ c0 ≤ x ∧ x < c1) := fun x h => by rw [h]; exact Or.inr ⟨htyo, hco, w_out⟩
  have to_outD : ∀ x, x = outD → H.size ≤ x ∨ (kTy D H x ∧ c0 ≤ x ∧ x < c1) := fun x h => by rw [h]; exact Or.inr ⟨htyd, i_outD, w_outD⟩
  obtain ⟨⟨hO_st, mc9, hO_la⟩, hLs9, hLn9, hF9, hDs9, hb1, hb2, hb3⟩ := id hP_kState_st
  have hr9 := tx_pos_le hMt
  refine lv_aload_n hx hb dL_law_2322 rfl (lv_at hl 1 rfl) ?_
  refine kx_ci (va_runV (As := []) (rest := []) ⟨hx, hb, hml, hown, hts⟩ (m_X1_errorPosition l D H x1 st ((sl.map (fun a => a.1.1)).head?) hi bu vb t hO_x1 hTx ) (cwV 0 hts (lw_V q1529 q1530 q1531 q79 q1532) rfl rfl rfl (by decide +kernel) ⟨Nat.le_of_ble_eq_true rfl, Nat.le_of_ble_eq_true rfl⟩) (kx_pv hK hS hB (kx_rc hK hO_x1 (C := RX1) (T := TX1) (N := 4) rfl)) rfl rfl hl.1 rfl (lv_room (Nat.le_of_ble_eq_true rfl)) dL_law_2323 ⟨by first | exact Nat.le_of_ble_eq_true rfl | omega | (dsimp only [lwR]; omega) | (show _ ≤ _; omega), by first | exact Nat.le_of_ble_eq_true rfl | omega | (dsimp only [lwR]; omega) | (show _ ≤ _; omega)⟩) hS (fun q _ h => by have h9 := hS.1; (try dsimp only at h); (try dsimp only); (try simp only [kNW] at h); (try simp only [kNW]); omega) (fun q h => by have h9 := hS.1; (try dsimp only at h); (try dsimp only); (try simp only [kNW] at h); (try simp only [kNW]); omega) (fun z_6 H_4 locs_1 hz_3 hF_5 hS_2 => ?_)
  have hzf_7 := hF_5.1
  have hF_5 := hF_5.nw
  obtain ⟨hv_8, htr_9⟩ := hz_3
  subst z_6
  refine lv_aload_n hx hb dL_law_2326 rfl (lv_at hl 2 rfl) ?_
  have h_10 := hO_mm.ex hF_5
  have h_11 := hA_ra.ex hF_5
  have h_12 := hA_sa.ex hF_5
  have h_13 := hA_ka.ex hF_5
  have h_14 := hA_ta.ex hF_5
  have ty_mm : ∀ x, x = mm → H_4.size ≤ x ∨ (kTy D H_4 x ∧ c0 ≤ x ∧ x < c1) := fun x h => by rw [h]; exact Or.inr ⟨Or.inl ⟨2, _, by decide, by decide, by decide, h_10⟩, i_mm.1, w_mm⟩
  refine kx_ci (va_runV (As := []) (rest := [.int (kI ((tx_pos t : Nat) : Int))]) ⟨hx, hb, hml, hown, hts⟩ (m_X3_errorPosition l D H_4 mm ra sa ka ta nh ik th gt t sp9 iw le9 fi9 se9 h_10 h_14 hMt (by first | assumption | omega) n_mm_ta b_mm) (cwV 0 hts (lw_V q2597 q2598 q2599 q89 q2600) rfl rfl rfl (by decide +kernel) ⟨Nat.le_of_ble_eq_true rfl, Nat.le_of_ble_eq_true rfl⟩) (kx_pv hK hS_2 hB (kx_rc hK h_10 (C := RX3) (T := TX3) (N := 13) rfl)) rfl rfl hl.1 rfl (lv_room (Nat.le_of_ble_eq_true rfl)) dL_law_2327 ⟨by first | exact Nat.le_of_ble_eq_true rfl | omega | (dsimp only [lwR]; omega) | (show _ ≤ _; omega), by first | exact Nat.le_of_ble_eq_true rfl | omega | (dsimp only [lwR]; omega) | (show _ ≤ _; omega)⟩) hS_2 (fun q _ h => (ge_mm q) h) (fun q h => (ge_mm q) h) (fun z_20 H_18 locs_15 hz_17 hF_19 hS_16 => ?_)
  have hzf_21 := hF_19.1
  obtain ⟨le2_22, fi2_23, se2_24, hv_25, ho_26⟩ := hz_17
  subst z_20
  refine kx_icmp_eq (x := ((tx_pos t : Nat) : Int)) (y := ((tx_pos t : Nat) : Int)) (tgt := 2493) hx hb dL_law_2330 (by decide) (by omega) (by omega) (by omega) (by omega) (fun cd9 => ?_) (fun cd9 => ?_)
  · -- taken at 2330
    have h_27 := h_11.fr hF_19 (n_mm_ra.sm)
    have h_28 := h_12.fr hF_19 (n_mm_sa.sm)
    have h_29 := h_13.fr hF_19 (n_mm_ka.sm)
    have h_30 := h_14.fr hF_19 (n_mm_ta.sm)
    have h_31 := hA_out.ex hF_5
    have h_32 := h_31.fr hF_19 (n_mm_out.sm)
    have h_33 := hA_outD.ex hF_5
    have h_34 := h_33.fr hF_19 (n_mm_outD.sm)
    have h_35 := hW.ex hd9 hF_5
    have h_36 := h_35.fr hd9 hF_19 (fun x => (ty_mm x))
    refine W.widen (k := cells + 50000) (n := slots + 228000) (by omega) (by omega) ?_
    have hM9 : kM D H_18 c0 out mm (S, gap) ((sl.map Prod.snd).head?) (hl2.map Prod.snd) t := ⟨ra, sa, ka, ta, _, _, _, _, _, _, _, _, _, _, _, _, ho_26, h_27, h_28, h_29, h_30, hMr, hMh, hMk, hMt, ht60, hMd, hMb, hMi⟩
    exact kk (S, gap) ((sl.map Prod.snd).head?) (hl2.map Prod.snd) t _ _ _ ⟨hS_16, lv_sub hl [0, 1, 2, 3, 4, 5] rfl, h_36, hM9, ⟨_, h_32⟩, ⟨_, h_34⟩, by omega, by omega⟩
  · -- not taken at 2330
    exfalso; omega

