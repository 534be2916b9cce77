set_option maxHeartbeats 8000000 in
set_option maxRecDepth 100000 in
theorem lc_runText {p : Program} {e : Env} {s : State} {m : MethodId} {below : List Frame} {meth : Method} {c : Code} {l : Launch} {D : kG} {b L c0 c1 x1 mm out outD : Nat} {xs : Nat → Int32} {Q : State → Prop} (C0 : lwC D p l s m meth c b L c0 c1 out outD xs) {j : Nat} (hj : 3 * j + 3 ≤ L) {S : Ls} {gap : Int} {sn : Option Sg} {hs : List Sg} {t : List Int} {H : Heap} {locs : List Loc} {ls : Array Slot} (I0 : lwI D s b c0 c1 x1 mm out outD j j (S, gap) sn hs t H locs ls) {cells slots : Nat} (hcl : cells + 50000 ≤ 1200144) (hsl9 : slots + 228000 ≤ 5496058) (kk : ∀ (σ : Sg) (sn : Option Sg) (hs : List Sg) (t : List Int) (H : Heap) (locs : List Loc) (ls : Array Slot), lwI D s b c0 c1 x1 mm out outD j (j + 1) σ sn hs t H locs ls → W p l e lwR s m #[Value.ref b] below meth c H locs (cells + 50000) (slots + 228000) Q (F0 m 2493 ls [])) : W p l e lwR s m #[Value.ref b] below meth c H locs cells slots Q (F0 m 2335 ls []) := by
  obtain ⟨hx, hb, hml, hown, hts, hlk, hK, hl9, hX, hbl, hbs, hL72, hc0, hco, hod, hdc⟩ := C0
  obtain ⟨hS, hl, hW, hM, ⟨go, hA_out⟩, ⟨gd, hA_outD⟩, hc1, htl⟩ := I0
  have hB : ∀ q, (kNW s.heap) q → kBase D ≤ q := fun q h => Nat.le_trans hK.size h
  have hbA : ¬ (kNW s.heap) b := fun h => by have h9 : s.heap.size ≤ b := h; omega
  have hd9 := hK.dis
  have hxE : ¬ kBase D ≤ D.2.2.2 2 := hK.tE.out
  obtain ⟨z1, hz1⟩ : ∃ z, z = (xs (3 * j + 1)).toInt := ⟨_, rfl⟩
  obtain ⟨z2, hz2⟩ : ∃ z, z = (xs (3 * j + 2)).toInt := ⟨_, rfl⟩
  have hr1 : -2147483648 ≤ z1 ∧ z1 ≤ 2147483647 := by rw [hz1]; exact i32r _
  have hr2 : -2147483648 ≤ z2 ∧ z2 ≤ 2147483647 := by rw [hz2]; exact i32r _
  obtain ⟨⟨st, la, ea, F⟩, sl, hl2, hi, es, bu, vb, hO_x1, hDq, hTx, hX5, hev, hAl, hDj, hPw, hsl, hsn, hhs⟩ := id hW
  subst hsn
  subst hhs
  obtain ⟨ra, sa, ka, ta, nh, ik, th, sp9, iw, le9, fi9, se9, g, gs, gk, gt, hO_mm, hA_ra, hA_sa, hA_ka, hA_ta, hMr, hMh, hMk, hMt, ht60, hMd, hMb, hMi⟩ := id hM
  have hMr : MRow g S gap := hMr
  have h0 := hAl _ List.mem_cons_self
  have hP_kState_st : kState D H st la ea gap S F := h0.1
  have hok : LsOK S gap := h0.2.1
  have hG : StG S := h0.2.2.1
  have hL8 : S.length ≤ 8 := hok.1
  have hgp := hok.2.1
  have hO_x1 : kO D H x1 0 [.ref st, va_rf ((sl.map (fun a => a.1.1)).head?), .ref hi, .ref bu] := hO_x1
  have hOw : ∀ q, kOwn D st la ea F S.length q → q ∉ [x1, hi, es, bu, vb] ∧ (q < c0 ∨ c1 ≤ q) := h0.2.2.2
  have hev : Hd (es ≠ vb) := hev
  have io_x1 : ∀ x, c0 ≤ x → x < c1 → x ≠ x1 := fun x => out_of (hX5 x1 (by simp)).2
  have io_hi : ∀ x, c0 ≤ x → x < c1 → x ≠ hi := fun x => out_of (hX5 hi (by simp)).2
  have io_es : ∀ x, c0 ≤ x → x < c1 → x ≠ es := fun x => out_of (hX5 es (by simp)).2
  have io_bu : ∀ x, c0 ≤ x → x < c1 → x ≠ bu := fun x => out_of (hX5 bu (by simp)).2
  have io_vb : ∀ x, c0 ≤ x → x < c1 → x ≠ vb := fun x => out_of (hX5 vb (by simp)).2
  have b_x1 := (hX5 x1 (by simp)).1
  have b_hi := (hX5 hi (by simp)).1
  have b_es := (hX5 es (by simp)).1
  have b_bu := (hX5 bu (by simp)).1
  have b_vb := (hX5 vb (by simp)).1
  obtain ⟨⟨⟨n1, n2, n3, n4⟩, n5, n6, n7⟩, n8, n9, n10⟩ := hMd
  have n_mm_ra : Hd (mm ≠ ra) := n1
  have n_mm_sa : Hd (mm ≠ sa) := n2
  have n_mm_ka : Hd (mm ≠ ka) := n3
  have n_mm_ta : Hd (mm ≠ ta) := n4
  have n_ra_sa : Hd (ra ≠ sa) := n5
  have n_ra_ka : Hd (ra ≠ ka) := n6
  have n_ra_ta : Hd (ra ≠ ta) := n7
  have n_sa_ka : Hd (sa ≠ ka) := n8
  have n_sa_ta : Hd (sa ≠ ta) := n9
  have n_ka_ta : Hd (ka ≠ ta) := n10
  have hMd : Hd (((mm ≠ ra ∧ mm ≠ sa ∧ mm ≠ ka ∧ mm ≠ ta) ∧ ra ≠ sa ∧ ra ≠ ka ∧ ra ≠ ta) ∧ sa ≠ ka ∧ sa ≠ ta ∧ ka ≠ ta) := ⟨⟨⟨n1, n2, n3, n4⟩, n5, n6, n7⟩, n8, n9, n10⟩
  clear n1 n2 n3 n4 n5 n6 n7 n8 n9 n10
  obtain ⟨b_mm, b_ra, b_sa, b_ka, b_ta⟩ := id hMb
  obtain ⟨i_mm, i_ra, i_sa, i_ka, i_ta⟩ := id hMi
  have b_out : kBase D ≤ out := by omega
  have hcc : c0 ≤ c1 := by omega
  have w_mm : mm < c1 := by omega
  have n_mm_out : Hd (mm ≠ out) := Nat.ne_of_lt i_mm.2
  have n_mm_outD : Hd (mm ≠ outD) := Nat.ne_of_lt (Nat.lt_trans i_mm.2 hod)
  have w_ra : ra < c1 := by omega
  have n_ra_out : Hd (ra ≠ out) := Nat.ne_of_lt i_ra.2
  have n_ra_outD : Hd (ra ≠ outD) := Nat.ne_of_lt (Nat.lt_trans i_ra.2 hod)
  have w_sa : sa < c1 := by omega
  have n_sa_out : Hd (sa ≠ out) := Nat.ne_of_lt i_sa.2
  have n_sa_outD : Hd (sa ≠ outD) := Nat.ne_of_lt (Nat.lt_trans i_sa.2 hod)
  have w_ka : ka < c1 := by omega
  have n_ka_out : Hd (ka ≠ out) := Nat.ne_of_lt i_ka.2
  have n_ka_outD : Hd (ka ≠ outD) := Nat.ne_of_lt (Nat.lt_trans i_ka.2 hod)
  have w_ta : ta < c1 := by omega
  have n_ta_out : Hd (ta ≠ out) := Nat.ne_of_lt i_ta.2
  have n_ta_outD : Hd (ta ≠ outD) := Nat.ne_of_lt (Nat.lt_trans i_ta.2 hod)
  have ge_mm : ∀ q, q = mm → kNW s.heap q := fun q h => by rw [h]; show s.heap.size ≤ mm; omega
  have ge_ra : ∀ q, q = ra → kNW s.heap q := fun q h => by rw [h]; show s.heap.size ≤ ra; omega
  have ge_sa : ∀ q, q = sa → kNW s.heap q := fun q h => by rw [h]; show s.heap.size ≤ sa; omega
  have ge_ka : ∀ q, q = ka → kNW s.heap q := fun q h => by rw [h]; show s.heap.size ≤ ka; omega
  have ge_ta : ∀ q, q = ta → kNW s.heap q := fun q h => by rw [h]; show s.heap.size ≤ ta; omega
  have ge_out : ∀ q, q = out → kNW s.heap q := fun q h => by rw [h]; show s.heap.size ≤ out; omega
  have n_out_outD : Hd (out ≠ outD) := Nat.ne_of_lt hod
  have w_out : out < c1 := by omega
  have w_outD : outD < c1 := hdc
  have i_outD : c0 ≤ outD := by omega
  have htyo : kTy D H out := Or.inr ⟨2, _, by decide, hA_out⟩
  have htyd : kTy D H outD := Or.inr ⟨3, _, by decide, hA_outD⟩
  have to_out : ∀ x, x = out → H.size ≤ x ∨ (kTy D H x ∧ c0 ≤ x ∧ x < c1) := fun x h => by rw [h]; exact Or.inr ⟨htyo, hco, w_out⟩
  have to_outD : ∀ x, x = outD → H.size ≤ x ∨ (kTy D H x ∧ c0 ≤ x ∧ x < c1) := fun x h => by rw [h]; exact Or.inr ⟨htyd, i_outD, w_outD⟩
  obtain ⟨⟨hO_st, mc9, hO_la⟩, hLs9, hLn9, hF9, hDs9, hb1, hb2, hb3⟩ := id hP_kState_st
  have hnx : ∀ q, kOwn D st la ea F S.length q → q ≠ hi ∧ q ≠ es ∧ q ≠ x1 := fun q hq => by
    have h9 := (hOw q hq).1
    simp only [List.mem_cons, List.not_mem_nil, or_false, not_or] at h9
    exact ⟨h9.2.1, h9.2.2.1, h9.1⟩
  have hnO9 : ∀ q, kOwn D st la ea F S.length q → q ≠ out := fun q hq => (out_of (hOw q hq).2 hco w_out).symm
  have nex : Hd (x1 ≠ hi ∧ x1 ≠ es) := by
    obtain ⟨_, _, _, y1, y2, _⟩ := hDq
    exact ⟨(kO_ne hd9 y1 hO_x1 (by decide) (by decide) (by decide)).symm, kOA_ne hd9 hO_x1 y2 (by decide) (by decide)⟩
  have neo : Hd (hi ≠ out ∧ es ≠ out ∧ x1 ≠ out) := ⟨(io_hi out hco w_out).symm, (io_es out hco w_out).symm, (io_x1 out hco w_out).symm⟩
  by_cases hA : (tx_all t).1 = true
  · -- hA
    have hr9 : (tx_go t S gap).1 ≤ t.length + 1 := tx_run_le t _ _ S gap
    have hrv : -2147483648 ≤ (((tx_go t S gap).1 : Nat) : Int) ∧ (((tx_go t S gap).1 : Nat) : Int) ≤ 2147483647 := ⟨by omega, by omega⟩
    have ht24 : t.length ≤ 24 := by omega
    refine lv_aload_n hx hb dL_law_2335 rfl (lv_at hl 1 rfl) ?_
    refine lv_aload_n hx hb dL_law_2336 rfl (lv_at hl 3 rfl) ?_
    refine kx_ci (vx_runSW (As := [.ref x1, .ref out]) (rest := []) ⟨hx, hb, hml, hown, hts⟩ (wr_runText l hl9 D H x1 ((sl.map (fun a => a.1.1)).head?) hi bu es ((hl2.map (fun a => a.1.1))) st la ea F S gap vb t out go hO_x1 hP_kState_st hDq hTx hA_out (by first | assumption | omega) (by first | assumption | omega) (by first | assumption | omega) (by first | assumption | omega) nex (by first | assumption | omega) hA (by first | assumption | omega) (by first | assumption | omega) (by first | assumption | omega) neo (by first | assumption | omega)) (vx_cwSW 2 hts (lw_SW q2188 q2189 q78 q2190) rfl rfl rfl (by decide +kernel) ⟨Nat.le_of_ble_eq_true rfl, Nat.le_of_ble_eq_true rfl⟩) (kx_ps hK hS hB) rfl rfl hl.1 rfl (lv_room (Nat.le_of_ble_eq_true rfl)) dL_law_2337 ⟨by first | (dsimp only [lwR]; omega) | omega | exact Nat.le_of_ble_eq_true rfl, by first | (dsimp only [lwR]; omega) | omega | exact Nat.le_of_ble_eq_true rfl⟩) hS (fun q _ h => (fun h => Or.elim h (ge_out q) (fun h => Or.elim h (fun h => by have h8 := hP_kState_st.ownge h; show s.heap.size ≤ q; omega) (fun h => Or.elim h (fun h => by rw [h]; show s.heap.size ≤ hi; omega) (fun h => Or.elim h (fun h => by rw [h]; show s.heap.size ≤ es; omega) (fun h => Nat.le_trans hS.1 h))))) h) (fun q h => (fun h => Or.elim h (ge_out q) (fun h => Or.elim h (fun h => by have h8 := hP_kState_st.ownge h; show s.heap.size ≤ q; omega) (fun h => Or.elim h (fun h => by rw [h]; show s.heap.size ≤ hi; omega) (fun h => Or.elim h (fun h => by rw [h]; show s.heap.size ≤ es; omega) (fun h => Nat.le_trans hS.1 h))))) h) (fun z_6 H_4 locs_1 hz_3 hF_5 hS_2 => ?_)
    have hzf_7 := hF_5.1
    obtain ⟨crw, la2w, ea2w, F2w, ea3w, F3w, hv_14, ho_15, ho_16, ho_17, ho_18, ho_19, hw1, hw2, hw3⟩ := hz_3
    subst z_6
    have hW9 : kW D H_4 c0 c1 x1 ((tx_go t S gap).2.1, (tx_go t S gap).2.2) ((sl.map Prod.snd).head?) (pushH (hl2.map Prod.snd) (S, gap)) t := kW.change (out := out) hd9 hxE hO_x1 hDq hTx hX5 hev hAl hDj hPw hsl hF_5 htyo ⟨hco, w_out⟩ hc1 ho_15 ho_16 ho_17 ho_18 hw1 hw2 hw3 ((tx_go_ok hMt hok hG).1) ((tx_go_ok hMt hok hG).2)
    refine lv_istore (lv' := [(6, .int (kI (0))), (0, .ref b), (1, .ref x1), (2, .ref mm), (3, .ref out), (4, .ref outD), (5, .int (kI ((3 * j : Nat) : Int)))]) hx hb dL_law_2340 hl (by decide) rfl (fun ls hl => ?_)
    refine lv_aload_n hx hb dL_law_2342 rfl (lv_at hl 3 rfl) ?_
    have h_20 := hO_mm.fr hF_5 (fun h => Or.elim h (n_mm_out) (fun h => Or.elim h (fun h => out_of (hOw _ h).2 i_mm.1 w_mm rfl) (fun h => Or.elim h (io_hi _ i_mm.1 w_mm) (fun h => Or.elim h (io_es _ i_mm.1 w_mm) (fun h => Nat.not_le_of_gt hO_mm.lt h)))))
    have h_21 := hA_ra.fr hF_5 (fun h => Or.elim h (n_ra_out) (fun h => Or.elim h (fun h => out_of (hOw _ h).2 i_ra.1 w_ra rfl) (fun h => Or.elim h (io_hi _ i_ra.1 w_ra) (fun h => Or.elim h (io_es _ i_ra.1 w_ra) (fun h => Nat.not_le_of_gt hA_ra.lt h)))))
    have h_22 := hA_sa.fr hF_5 (fun h => Or.elim h (n_sa_out) (fun h => Or.elim h (fun h => out_of (hOw _ h).2 i_sa.1 w_sa rfl) (fun h => Or.elim h (io_hi _ i_sa.1 w_sa) (fun h => Or.elim h (io_es _ i_sa.1 w_sa) (fun h => Nat.not_le_of_gt hA_sa.lt h)))))
    have h_23 := hA_ka.fr hF_5 (fun h => Or.elim h (n_ka_out) (fun h => Or.elim h (fun h => out_of (hOw _ h).2 i_ka.1 w_ka rfl) (fun h => Or.elim h (io_hi _ i_ka.1 w_ka) (fun h => Or.elim h (io_es _ i_ka.1 w_ka) (fun h => Nat.not_le_of_gt hA_ka.lt h)))))
    have h_24 := hA_ta.fr hF_5 (fun h => Or.elim h (n_ta_out) (fun h => Or.elim h (fun h => out_of (hOw _ h).2 i_ta.1 w_ta rfl) (fun h => Or.elim h (io_hi _ i_ta.1 w_ta) (fun h => Or.elim h (io_es _ i_ta.1 w_ta) (fun h => Nat.not_le_of_gt hA_ta.lt h)))))
    have ty_mm : ∀ x, x = mm → H_4.size ≤ x ∨ (kTy D H_4 x ∧ c0 ≤ x ∧ x < c1) := fun x h => by rw [h]; exact Or.inr ⟨Or.inl ⟨2, _, by decide, by decide, by decide, h_20⟩, i_mm.1, w_mm⟩
    have ty_ra : ∀ x, x = ra → H_4.size ≤ x ∨ (kTy D H_4 x ∧ c0 ≤ x ∧ x < c1) := fun x h => by rw [h]; exact Or.inr ⟨Or.inr ⟨0, _, by decide, h_21⟩, i_ra.1, w_ra⟩
    have ty_sa : ∀ x, x = sa → H_4.size ≤ x ∨ (kTy D H_4 x ∧ c0 ≤ x ∧ x < c1) := fun x h => by rw [h]; exact Or.inr ⟨Or.inr ⟨0, _, by decide, h_22⟩, i_sa.1, w_sa⟩
    refine kx_ci (va_runV (As := []) (rest := []) ⟨hx, hb, hml, hown, hts⟩ (m_X3_runText l D H_4 mm ra sa ka ta nh ik th gt t sp9 iw le9 fi9 se9 g gs S gap ((hl2.map Prod.snd)) h_20 h_21 h_22 h_24 (by first | assumption | omega) (by first | assumption | omega) (by first | assumption | omega) n_mm_ra n_mm_sa n_ra_sa b_mm b_ra b_sa hMt (by first | assumption | omega) n_mm_ta n_ra_ta n_sa_ta hA) (cwV 0 hts (lw_V q2621 q2622 q2623 q89 q2624) rfl rfl rfl (by decide +kernel) ⟨Nat.le_of_ble_eq_true rfl, Nat.le_of_ble_eq_true rfl⟩) (kx_pv hK hS_2 hB (kx_rc hK h_20 (C := RX3) (T := TX3) (N := 13) rfl)) rfl rfl hl.1 rfl (lv_room (Nat.le_of_ble_eq_true rfl)) dL_law_2343 ⟨by first | (dsimp only [lwR]; omega) | omega | exact Nat.le_of_ble_eq_true rfl, by first | (dsimp only [lwR]; omega) | omega | exact Nat.le_of_ble_eq_true rfl⟩) hS_2 (fun q _ h => (fun h => Or.elim h (ge_mm q) (fun h => Or.elim h (ge_ra q) (ge_sa q))) h) (fun q h => (fun h => Or.elim h (ge_mm q) (fun h => Or.elim h (ge_ra q) (ge_sa q))) h) (fun z_30 H_28 locs_25 hz_27 hF_29 hS_26 => ?_)
    have hzf_31 := hF_29.1
    obtain ⟨g2_32, gs2_33, sn2_34, iw2_35, sp2_36, le2_37, fi2_38, se2_39, hv_40, ho_41, ho_42, ho_43, hM29, hH29⟩ := hz_27
    subst z_30
    refine lv_istore (lv' := [(7, .int (kI (((tx_go t S gap).1 : Nat) : Int))), (6, .int (kI (0))), (0, .ref b), (1, .ref x1), (2, .ref mm), (3, .ref out), (4, .ref outD), (5, .int (kI ((3 * j : Nat) : Int)))]) hx hb dL_law_2346 hl (by decide) rfl (fun ls hl => ?_)
    refine lv_aload_n hx hb dL_law_2348 rfl (lv_at hl 4 rfl) ?_
    refine kx_ci0 (va_runV (As := []) (rest := []) ⟨hx, hb, hml, hown, hts⟩ (m_X3_thrown l D H_28 mm ra sa ka ta sn2_34 ik t.length 0 (((sp2_36 : Nat) : Int)) iw2_35 le2_37 fi2_38 se2_39 ho_41 ) (cwV 0 hts (lw_V q2278 q2279 q2280 q89 q2281) rfl rfl rfl (by decide +kernel) ⟨Nat.le_of_ble_eq_true rfl, Nat.le_of_ble_eq_true rfl⟩) (kx_pv hK hS_26 hB (kx_rc hK ho_41 (C := RX3) (T := TX3) (N := 13) rfl)) rfl rfl hl.1 rfl (lv_room (Nat.le_of_ble_eq_true rfl)) dL_law_2349 ⟨by first | (dsimp only [lwR]; omega) | omega | exact Nat.le_of_ble_eq_true rfl, by first | (dsimp only [lwR]; omega) | omega | exact Nat.le_of_ble_eq_true rfl⟩) hS_26 (fun z_47 locs_44 hz_46 hS_45 => ?_)
    subst z_47
    refine lv_iload hx hb dL_law_2352 (lv_at hl 1 rfl) ?_
    refine kx_icmp_eq (x := 0) (y := 0) (tgt := 2359) hx hb dL_law_2354 (by decide) (by omega) (by omega) (by omega) (by omega) (fun c_2354_48 => ?_) (fun c_2354_48 => ?_)
    · -- taken at 2354
      refine lv_iload hx hb dL_law_2359 (lv_at hl 1 rfl) ?_
      refine kx_if_ne (x := 0) (tgt := 2376) hx hb dL_law_2361 (by decide) (by omega) (by omega) (fun c_2361_49 => ?_) (fun c_2361_49 => ?_)
      · -- taken at 2361
        exfalso; omega
      · -- not taken at 2361
        refine lv_aload_n hx hb dL_law_2364 rfl (lv_at hl 5 rfl) ?_
        refine kx_iconst hx hb dL_law_2365 ?_
        have h_50 := ho_19.fr hF_29 (fun h => Or.elim h (n_mm_out.sm) (fun h => Or.elim h (n_ra_out.sm) (n_sa_out.sm)))
        refine kx_lald (i := 0) hx hb hK h_50 0 rfl (by decide) (by decide) dL_law_2366 ?_
        refine lv_iload hx hb dL_law_2367 (lv_at hl 0 rfl) ?_
        refine kx_i2l hx hb (z := (((tx_go t S gap).1 : Nat) : Int)) (by omega) (by omega) dL_law_2369 ?_
        refine kx_lcmpE hx hb (x := ((kup go 0 (kL ((((tx_go t S gap).1 : Nat) : Int))))) 0) (y := kL ((((tx_go t S gap).1 : Nat) : Int))) (kup_self _ _ _) dL_law_2370 ?_
        refine kx_if_eq (x := 0) (tgt := 2376) hx hb dL_law_2371 (by decide) (by omega) (by omega) (fun c_2371_51 => ?_) (fun c_2371_51 => ?_)
        · -- taken at 2371
          refine lv_goto (tgt := 2493) hx hb dL_law_2376 (by decide) ?_
          have h_52 := h_23.fr hF_29 (fun h => Or.elim h (n_mm_ka.sm) (fun h => Or.elim h (n_ra_ka.sm) (n_sa_ka.sm)))
          have h_53 := h_24.fr hF_29 (fun h => Or.elim h (n_mm_ta.sm) (fun h => Or.elim h (n_ra_ta.sm) (n_sa_ta.sm)))
          have h_54 := hA_outD.fr hF_5 (fun h => Or.elim h (n_out_outD.sm) (fun h => Or.elim h (fun h => out_of (hOw _ h).2 i_outD w_outD rfl) (fun h => Or.elim h (io_hi _ i_outD w_outD) (fun h => Or.elim h (io_es _ i_outD w_outD) (fun h => Nat.not_le_of_gt hA_outD.lt h)))))
          have h_55 := h_54.fr hF_29 (fun h => Or.elim h (n_mm_outD.sm) (fun h => Or.elim h (n_ra_outD.sm) (n_sa_outD.sm)))
          have h_56 := hW9.fr hd9 hF_29 (fun x => (fun h => Or.elim h (ty_mm x) (fun h => Or.elim h (ty_ra x) (ty_sa x))))
          refine W.widen (k := cells + 50000) (n := slots + 228000) (by omega) (by omega) ?_
          have hM9 : kM D H_28 c0 out mm ((tx_go t S gap).2.1, (tx_go t S gap).2.2) ((sl.map Prod.snd).head?) (pushH (hl2.map Prod.snd) (S, gap)) t := ⟨ra, sa, ka, ta, _, _, _, _, _, _, _, _, _, _, _, _, ho_41, ho_42, ho_43, h_52, h_53, hM29, hH29, hMk, hMt, ht60, hMd, hMb, hMi⟩
          exact kk ((tx_go t S gap).2.1, (tx_go t S gap).2.2) ((sl.map Prod.snd).head?) (pushH (hl2.map Prod.snd) (S, gap)) t _ _ _ ⟨hS_45, lv_sub hl [2, 3, 4, 5, 6, 7] rfl, h_56, hM9, ⟨_, h_50⟩, ⟨_, h_55⟩, by omega, by omega⟩
        · -- not taken at 2371
          exfalso; omega
    · -- not taken at 2354
      exfalso; omega
  · -- hA
    have hAf : (tx_all t).1 = false := Bool.eq_false_iff.mpr hA
    refine lv_aload_n hx hb dL_law_2335 rfl (lv_at hl 1 rfl) ?_
    refine lv_aload_n hx hb dL_law_2336 rfl (lv_at hl 3 rfl) ?_
    refine kx_ci (vx_runSW (As := [.ref x1, .ref out]) (rest := []) ⟨hx, hb, hml, hown, hts⟩ (wx_runText l hl9 D H x1 st ((sl.map (fun a => a.1.1)).head?) hi bu vb t out hO_x1 hTx hAf) (vx_cwSW 2 hts (lw_SW q2188 q2189 q78 q2190) rfl rfl rfl (by decide +kernel) ⟨Nat.le_of_ble_eq_true rfl, Nat.le_of_ble_eq_true rfl⟩) (kx_ps hK hS hB) rfl rfl hl.1 rfl (lv_room (Nat.le_of_ble_eq_true rfl)) dL_law_2337 ⟨by first | (dsimp only [lwR]; omega) | omega | exact Nat.le_of_ble_eq_true rfl, by first | (dsimp only [lwR]; omega) | omega | exact Nat.le_of_ble_eq_true rfl⟩) hS (fun q _ h => by have h9 := hS.1; (try dsimp only at h); (try dsimp only); (try simp only [kNW] at h); (try simp only [kNW]); omega) (fun q h => by have h9 := hS.1; (try dsimp only at h); (try dsimp only); (try simp only [kNW] at h); (try simp only [kNW]); omega) (fun z_62 H_60 locs_57 hz_59 hF_61 hS_58 => ?_)
    have hzf_63 := hF_61.1
    have hF_61 := hF_61.nw
    obtain ⟨hv_64, hnw_65⟩ := hz_59
    subst z_62
    refine lv_istore (lv' := [(6, .int (kI (1))), (0, .ref b), (1, .ref x1), (2, .ref mm), (3, .ref out), (4, .ref outD), (5, .int (kI ((3 * j : Nat) : Int)))]) hx hb dL_law_2340 hl (by decide) rfl (fun ls hl => ?_)
    refine lv_aload_n hx hb dL_law_2342 rfl (lv_at hl 3 rfl) ?_
    have h_66 := hO_mm.ex hF_61
    have h_67 := hA_ra.ex hF_61
    have h_68 := hA_sa.ex hF_61
    have h_69 := hA_ka.ex hF_61
    have h_70 := hA_ta.ex hF_61
    have ty_mm : ∀ x, x = mm → H_60.size ≤ x ∨ (kTy D H_60 x ∧ c0 ≤ x ∧ x < c1) := fun x h => by rw [h]; exact Or.inr ⟨Or.inl ⟨2, _, by decide, by decide, by decide, h_66⟩, i_mm.1, w_mm⟩
    refine kx_ci (va_runV (As := []) (rest := []) ⟨hx, hb, hml, hown, hts⟩ (m_X3_runText_no l D H_60 mm ra sa ka ta nh ik th gt t sp9 iw le9 fi9 se9 h_66 h_70 hMt (by first | assumption | omega) n_mm_ta b_mm hAf) (cwV 0 hts (lw_V q2621 q2622 q2623 q89 q2624) rfl rfl rfl (by decide +kernel) ⟨Nat.le_of_ble_eq_true rfl, Nat.le_of_ble_eq_true rfl⟩) (kx_pv hK hS_58 hB (kx_rc hK h_66 (C := RX3) (T := TX3) (N := 13) rfl)) rfl rfl hl.1 rfl (lv_room (Nat.le_of_ble_eq_true rfl)) dL_law_2343 ⟨by first | (dsimp only [lwR]; omega) | omega | exact Nat.le_of_ble_eq_true rfl, by first | (dsimp only [lwR]; omega) | omega | exact Nat.le_of_ble_eq_true rfl⟩) hS_58 (fun q _ h => (ge_mm q) h) (fun q h => (ge_mm q) h) (fun z_76 H_74 locs_71 hz_73 hF_75 hS_72 => ?_)
    have hzf_77 := hF_75.1
    obtain ⟨le2_78, fi2_79, se2_80, hv_81, ho_82⟩ := hz_73
    subst z_76
    refine lv_istore (lv' := [(7, .int (kI (0))), (6, .int (kI (1))), (0, .ref b), (1, .ref x1), (2, .ref mm), (3, .ref out), (4, .ref outD), (5, .int (kI ((3 * j : Nat) : Int)))]) hx hb dL_law_2346 hl (by decide) rfl (fun ls hl => ?_)
    refine lv_aload_n hx hb dL_law_2348 rfl (lv_at hl 4 rfl) ?_
    refine kx_ci0 (va_runV (As := []) (rest := []) ⟨hx, hb, hml, hown, hts⟩ (m_X3_thrown l D H_74 mm ra sa ka ta nh ik t.length 1 ((((tx_all t).2 : Nat) : Int)) false le2_78 fi2_79 se2_80 ho_82 ) (cwV 0 hts (lw_V q2278 q2279 q2280 q89 q2281) rfl rfl rfl (by decide +kernel) ⟨Nat.le_of_ble_eq_true rfl, Nat.le_of_ble_eq_true rfl⟩) (kx_pv hK hS_72 hB (kx_rc hK ho_82 (C := RX3) (T := TX3) (N := 13) rfl)) rfl rfl hl.1 rfl (lv_room (Nat.le_of_ble_eq_true rfl)) dL_law_2349 ⟨by first | (dsimp only [lwR]; omega) | omega | exact Nat.le_of_ble_eq_true rfl, by first | (dsimp only [lwR]; omega) | omega | exact Nat.le_of_ble_eq_true rfl⟩) hS_72 (fun z_86 locs_83 hz_85 hS_84 => ?_)
    subst z_86
    refine lv_iload hx hb dL_law_2352 (lv_at hl 1 rfl) ?_
    refine kx_icmp_eq (x := 1) (y := 1) (tgt := 2359) hx hb dL_law_2354 (by decide) (by omega) (by omega) (by omega) (by omega) (fun c_2354_87 => ?_) (fun c_2354_87 => ?_)
    · -- taken at 2354
      refine lv_iload hx hb dL_law_2359 (lv_at hl 1 rfl) ?_
      refine kx_if_ne (x := 1) (tgt := 2376) hx hb dL_law_2361 (by decide) (by omega) (by omega) (fun c_2361_88 => ?_) (fun c_2361_88 => ?_)
      · -- taken at 2361
        refine lv_goto (tgt := 2493) hx hb dL_law_2376 (by decide) ?_
        have h_89 := h_67.fr hF_75 (n_mm_ra.sm)
        have h_90 := h_68.fr hF_75 (n_mm_sa.sm)
        have h_91 := h_69.fr hF_75 (n_mm_ka.sm)
        have h_92 := h_70.fr hF_75 (n_mm_ta.sm)
        have h_93 := hA_out.ex hF_61
        have h_94 := h_93.fr hF_75 (n_mm_out.sm)
        have h_95 := hA_outD.ex hF_61
        have h_96 := h_95.fr hF_75 (n_mm_outD.sm)
        have h_97 := hW.ex hd9 hF_61
        have h_98 := h_97.fr hd9 hF_75 (fun x => (ty_mm x))
        refine W.widen (k := cells + 50000) (n := slots + 228000) (by omega) (by omega) ?_
        have hM9 : kM D H_74 c0 out mm (S, gap) ((sl.map Prod.snd).head?) (hl2.map Prod.snd) t := ⟨ra, sa, ka, ta, _, _, _, _, _, _, _, _, _, _, _, _, ho_82, h_89, h_90, h_91, h_92, hMr, hMh, hMk, hMt, ht60, hMd, hMb, hMi⟩
        exact kk (S, gap) ((sl.map Prod.snd).head?) (hl2.map Prod.snd) t _ _ _ ⟨hS_84, lv_sub hl [2, 3, 4, 5, 6, 7] rfl, h_98, hM9, ⟨_, h_94⟩, ⟨_, h_96⟩, by omega, by omega⟩
      · -- not taken at 2361
        exfalso; omega
    · -- not taken at 2354
      exfalso; omega

set_option maxHeartbeats 8000000 in
set_option maxRecDepth 100000 in
theorem lc_append {p : Program} {e : Env} {s : State} {m : MethodId} {below : List Frame} {meth : Method} {c : Code} {l : Launch} {D : kG} {b L c0 c1 x1 mm out outD : Nat} {xs : Nat → Int32} {Q : State → Prop} (C0 : lwC D p l s m meth c b L c0 c1 out outD xs) {j : Nat} (hj : 3 * j + 3 ≤ L) {S : Ls} {gap : Int} {sn : Option Sg} {hs : List Sg} {t : List Int} {H : Heap} {locs : List Loc} {ls : Array Slot} (I0 : lwI D s b c0 c1 x1 mm out outD j j (S, gap) sn hs t H locs ls) {cells slots : Nat} (hcl : cells + 50000 ≤ 1200144) (hsl9 : slots + 228000 ≤ 5496058) (kk : ∀ (σ : Sg) (sn : Option Sg) (hs : List Sg) (t : List Int) (H : Heap) (locs : List Loc) (ls : Array Slot), lwI D s b c0 c1 x1 mm out outD j (j + 1) σ sn hs t H locs ls → W p l e lwR s m #[Value.ref b] below meth c H locs (cells + 50000) (slots + 228000) Q (F0 m 2493 ls [])) : W p l e lwR s m #[Value.ref b] below meth c H locs cells slots Q (F0 m 2253 ls []) := by
  obtain ⟨hx, hb, hml, hown, hts, hlk, hK, hl9, hX, hbl, hbs, hL72, hc0, hco, hod, hdc⟩ := C0
  obtain ⟨hS, hl, hW, hM, ⟨go, hA_out⟩, ⟨gd, hA_outD⟩, hc1, htl⟩ := I0
  have hB : ∀ q, (kNW s.heap) q → kBase D ≤ q := fun q h => Nat.le_trans hK.size h
  have hbA : ¬ (kNW s.heap) b := fun h => by have h9 : s.heap.size ≤ b := h; omega
  have hd9 := hK.dis
  have hxE : ¬ kBase D ≤ D.2.2.2 2 := hK.tE.out
  obtain ⟨z1, hz1⟩ : ∃ z, z = (xs (3 * j + 1)).toInt := ⟨_, rfl⟩
  obtain ⟨z2, hz2⟩ : ∃ z, z = (xs (3 * j + 2)).toInt := ⟨_, rfl⟩
  have hr1 : -2147483648 ≤ z1 ∧ z1 ≤ 2147483647 := by rw [hz1]; exact i32r _
  have hr2 : -2147483648 ≤ z2 ∧ z2 ≤ 2147483647 := by rw [hz2]; exact i32r _
  obtain ⟨⟨st, la, ea, F⟩, sl, hl2, hi, es, bu, vb, hO_x1, hDq, hTx, hX5, hev, hAl, hDj, hPw, hsl, hsn, hhs⟩ := id hW
  subst hsn
  subst hhs
  obtain ⟨ra, sa, ka, ta, nh, ik, th, sp9, iw, le9, fi9, se9, g, gs, gk, gt, hO_mm, hA_ra, hA_sa, hA_ka, hA_ta, hMr, hMh, hMk, hMt, ht60, hMd, hMb, hMi⟩ := id hM
  have hMr : MRow g S gap := hMr
  have h0 := hAl _ List.mem_cons_self
  have hP_kState_st : kState D H st la ea gap S F := h0.1
  have hok : LsOK S gap := h0.2.1
  have hG : StG S := h0.2.2.1
  have hL8 : S.length ≤ 8 := hok.1
  have hgp := hok.2.1
  have hO_x1 : kO D H x1 0 [.ref st, va_rf ((sl.map (fun a => a.1.1)).head?), .ref hi, .ref bu] := hO_x1
  have hOw : ∀ q, kOwn D st la ea F S.length q → q ∉ [x1, hi, es, bu, vb] ∧ (q < c0 ∨ c1 ≤ q) := h0.2.2.2
  have hev : Hd (es ≠ vb) := hev
  have io_x1 : ∀ x, c0 ≤ x → x < c1 → x ≠ x1 := fun x => out_of (hX5 x1 (by simp)).2
  have io_hi : ∀ x, c0 ≤ x → x < c1 → x ≠ hi := fun x => out_of (hX5 hi (by simp)).2
  have io_es : ∀ x, c0 ≤ x → x < c1 → x ≠ es := fun x => out_of (hX5 es (by simp)).2
  have io_bu : ∀ x, c0 ≤ x → x < c1 → x ≠ bu := fun x => out_of (hX5 bu (by simp)).2
  have io_vb : ∀ x, c0 ≤ x → x < c1 → x ≠ vb := fun x => out_of (hX5 vb (by simp)).2
  have b_x1 := (hX5 x1 (by simp)).1
  have b_hi := (hX5 hi (by simp)).1
  have b_es := (hX5 es (by simp)).1
  have b_bu := (hX5 bu (by simp)).1
  have b_vb := (hX5 vb (by simp)).1
  obtain ⟨⟨⟨n1, n2, n3, n4⟩, n5, n6, n7⟩, n8, n9, n10⟩ := hMd
  have n_mm_ra : Hd (mm ≠ ra) := n1
  have n_mm_sa : Hd (mm ≠ sa) := n2
  have n_mm_ka : Hd (mm ≠ ka) := n3
  have n_mm_ta : Hd (mm ≠ ta) := n4
  have n_ra_sa : Hd (ra ≠ sa) := n5
  have n_ra_ka : Hd (ra ≠ ka) := n6
  have n_ra_ta : Hd (ra ≠ ta) := n7
  have n_sa_ka : Hd (sa ≠ ka) := n8
  have n_sa_ta : Hd (sa ≠ ta) := n9
  have n_ka_ta : Hd (ka ≠ ta) := n10
  have hMd : Hd (((mm ≠ ra ∧ mm ≠ sa ∧ mm ≠ ka ∧ mm ≠ ta) ∧ ra ≠ sa ∧ ra ≠ ka ∧ ra ≠ ta) ∧ sa ≠ ka ∧ sa ≠ ta ∧ ka ≠ ta) := ⟨⟨⟨n1, n2, n3, n4⟩, n5, n6, n7⟩, n8, n9, n10⟩
  clear n1 n2 n3 n4 n5 n6 n7 n8 n9 n10
  obtain ⟨b_mm, b_ra, b_sa, b_ka, b_ta⟩ := id hMb
  obtain ⟨i_mm, i_ra, i_sa, i_ka, i_ta⟩ := id hMi
  have b_out : kBase D ≤ out := by omega
  have hcc : c0 ≤ c1 := by omega
  have w_mm : mm < c1 := by omega
  have n_mm_out : Hd (mm ≠ out) := Nat.ne_of_lt i_mm.2
  have n_mm_outD : Hd (mm ≠ outD) := Nat.ne_of_lt (Nat.lt_trans i_mm.2 hod)
  have w_ra : ra < c1 := by omega
  have n_ra_out : Hd (ra ≠ out) := Nat.ne_of_lt i_ra.2
  have n_ra_outD : Hd (ra ≠ outD) := Nat.ne_of_lt (Nat.lt_trans i_ra.2 hod)
  have w_sa : sa < c1 := by omega
  have n_sa_out : Hd (sa ≠ out) := Nat.ne_of_lt i_sa.2
  have n_sa_outD : Hd (sa ≠ outD) := Nat.ne_of_lt (Nat.lt_trans i_sa.2 hod)
  have w_ka : ka < c1 := by omega
  have n_ka_out : Hd (ka ≠ out) := Nat.ne_of_lt i_ka.2
  have n_ka_outD : Hd (ka ≠ outD) := Nat.ne_of_lt (Nat.lt_trans i_ka.2 hod)
  have w_ta : ta < c1 := by omega
  have n_ta_out : Hd (ta ≠ out) := Nat.ne_of_lt i_ta.2
  have n_ta_outD : Hd (ta ≠ outD) := Nat.ne_of_lt (Nat.lt_trans i_ta.2 hod)
  have ge_mm : ∀ q, q = mm → kNW s.heap q := fun q h => by rw [h]; show s.heap.size ≤ mm; omega
  have ge_ra : ∀ q, q = ra → kNW s.heap q := fun q h => by rw [h]; show s.heap.size ≤ ra; omega
  have ge_sa : ∀ q, q = sa → kNW s.heap q := fun q h => by rw [h]; show s.heap.size ≤ sa; omega
  have ge_ka : ∀ q, q = ka → kNW s.heap q := fun q h => by rw [h]; show s.heap.size ≤ ka; omega
  have ge_ta : ∀ q, q = ta → kNW s.heap q := fun q h => by rw [h]; show s.heap.size ≤ ta; omega
  have ge_out : ∀ q, q = out → kNW s.heap q := fun q h => by rw [h]; show s.heap.size ≤ out; omega
  have n_out_outD : Hd (out ≠ outD) := Nat.ne_of_lt hod
  have w_out : out < c1 := by omega
  have w_outD : outD < c1 := hdc
  have i_outD : c0 ≤ outD := by omega
  have htyo : kTy D H out := Or.inr ⟨2, _, by decide, hA_out⟩
  have htyd : kTy D H outD := Or.inr ⟨3, _, by decide, hA_outD⟩
  have to_out : ∀ x, x = out → H.size ≤ x ∨ (kTy D H x ∧ c0 ≤ x ∧ x < c1) := fun x h => by rw [h]; exact Or.inr ⟨htyo, hco, w_out⟩
  have to_outD : ∀ x, x = outD → H.size ≤ x ∨ (kTy D H x ∧ c0 ≤ x ∧ x < c1) := fun x h => by rw [h]; exact Or.inr ⟨htyd, i_outD, w_outD⟩
  obtain ⟨⟨hO_st, mc9, hO_la⟩, hLs9, hLn9, hF9, hDs9, hb1, hb2, hb3⟩ := id hP_kState_st
  have hbz : kBase D ≤ H.size := by omega
  have neo : Hd (bu ≠ out ∧ vb ≠ out) := ⟨(io_bu out hco w_out).symm, (io_vb out hco w_out).symm⟩
  have neo1 : Hd (x1 ≠ out) := (io_x1 out hco w_out).symm
  by_cases hA : 32 ≤ z1 ∧ z1 ≤ 126
  · -- hA
    have ht9 : t.length < 60 := by omega
    have hrv : -2147483648 ≤ ((t.length + 1 : Nat) : Int) ∧ ((t.length + 1 : Nat) : Int) ≤ 2147483647 := ⟨by omega, by omega⟩
    refine lv_aload_n hx hb dL_law_2253 rfl (lv_at hl 1 rfl) ?_
    refine lv_aload_n hx hb dL_law_2254 rfl (lv_at hl 0 rfl) ?_
    refine lv_iload hx hb dL_law_2255 (lv_at hl 5 rfl) ?_
    refine kx_iconst hx hb dL_law_2257 ?_
    refine kx_iadd hx hb dL_law_2258 ?_
    refine kx_sld (i := (((3 * j : Nat) : Int) + 1)) hx hb hX hbl hbA hS (3 * j + 1) (by omega) (by omega) (by omega) dL_law_2259 ?_
    refine kx_eqi (z1) (hz1.symm) ?_
    refine lv_aload_n hx hb dL_law_2260 rfl (lv_at hl 3 rfl) ?_
    refine kx_ci (vx_runSW (As := [.ref x1, .int (kI (z1)), .ref out]) (rest := []) ⟨hx, hb, hml, hown, hts⟩ (wr_append l hl9 D H x1 st ((sl.map (fun a => a.1.1)).head?) hi bu vb t z1 out go hO_x1 hTx hA_out (by first | assumption | omega) (by first | assumption | omega) hA (by first | assumption | omega) (by first | assumption | omega) neo neo1 (by first | assumption | omega)) (vx_cwSW 3 hts (lw_SW q2164 q2165 q78 q2166) rfl rfl rfl (by decide +kernel) ⟨Nat.le_of_ble_eq_true rfl, Nat.le_of_ble_eq_true rfl⟩) (kx_ps hK hS hB) rfl rfl hl.1 rfl (lv_room (Nat.le_of_ble_eq_true rfl)) dL_law_2261 ⟨by first | (dsimp only [lwR]; omega) | omega | exact Nat.le_of_ble_eq_true rfl, by first | (dsimp only [lwR]; omega) | omega | exact Nat.le_of_ble_eq_true rfl⟩) hS (fun q _ h => (fun h => Or.elim h (ge_out q) (fun h => Or.elim h (fun h => by rw [h]; show s.heap.size ≤ bu; omega) (fun h => Or.elim h (fun h => by rw [h]; show s.heap.size ≤ vb; omega) (fun h => Nat.le_trans hS.1 h)))) h) (fun q h => (fun h => Or.elim h (ge_out q) (fun h => Or.elim h (fun h => by rw [h]; show s.heap.size ≤ bu; omega) (fun h => Or.elim h (fun h => by rw [h]; show s.heap.size ≤ vb; omega) (fun h => Nat.le_trans hS.1 h)))) h) (fun z_6 H_4 locs_1 hz_3 hF_5 hS_2 => ?_)
    have hzf_7 := hF_5.1
    obtain ⟨vb2w, hv_9, ho_10, ho_11, ho_12, hwv⟩ := hz_3
    subst z_6
    have hW9 : kW D H_4 c0 c1 x1 (S, gap) ((sl.map Prod.snd).head?) (hl2.map Prod.snd) (t ++ [z1]) := kW.text (out := out) (κ := (st, la, ea, F)) (σ := (S, gap)) hd9 hxE hDq hTx hX5 hev hAl hDj hPw hsl hO_x1.lt hbz hF_5 htyo ⟨hco, w_out⟩ hc1 ho_10 ho_11 (hwv)
    refine lv_istore (lv' := [(6, .int (kI (0))), (0, .ref b), (1, .ref x1), (2, .ref mm), (3, .ref out), (4, .ref outD), (5, .int (kI ((3 * j : Nat) : Int)))]) hx hb dL_law_2264 hl (by decide) rfl (fun ls hl => ?_)
    refine lv_aload_n hx hb dL_law_2266 rfl (lv_at hl 3 rfl) ?_
    refine lv_aload_n hx hb dL_law_2267 rfl (lv_at hl 1 rfl) ?_
    refine lv_iload hx hb dL_law_2268 (lv_at hl 6 rfl) ?_
    refine kx_iconst hx hb dL_law_2270 ?_
    refine kx_iadd hx hb dL_law_2271 ?_
    refine kx_sld (i := (((3 * j : Nat) : Int) + 1)) hx hb hX hbl hbA hS_2 (3 * j + 1) (by omega) (by omega) (by omega) dL_law_2272 ?_
    refine kx_eqi (z1) (hz1.symm) ?_
    have h_13 := hO_mm.fr hF_5 (fun h => Or.elim h (n_mm_out) (fun h => Or.elim h (io_bu _ i_mm.1 w_mm) (fun h => Or.elim h (io_vb _ i_mm.1 w_mm) (fun h => Nat.not_le_of_gt hO_mm.lt h))))
    have h_14 := hA_ra.fr hF_5 (fun h => Or.elim h (n_ra_out) (fun h => Or.elim h (io_bu _ i_ra.1 w_ra) (fun h => Or.elim h (io_vb _ i_ra.1 w_ra) (fun h => Nat.not_le_of_gt hA_ra.lt h))))
    have h_15 := hA_sa.fr hF_5 (fun h => Or.elim h (n_sa_out) (fun h => Or.elim h (io_bu _ i_sa.1 w_sa) (fun h => Or.elim h (io_vb _ i_sa.1 w_sa) (fun h => Nat.not_le_of_gt hA_sa.lt h))))
    have h_16 := hA_ka.fr hF_5 (fun h => Or.elim h (n_ka_out) (fun h => Or.elim h (io_bu _ i_ka.1 w_ka) (fun h => Or.elim h (io_vb _ i_ka.1 w_ka) (fun h => Nat.not_le_of_gt hA_ka.lt h))))
    have h_17 := hA_ta.fr hF_5 (fun h => Or.elim h (n_ta_out) (fun h => Or.elim h (io_bu _ i_ta.1 w_ta) (fun h => Or.elim h (io_vb _ i_ta.1 w_ta) (fun h => Nat.not_le_of_gt hA_ta.lt h))))
    have ty_mm : ∀ x, x = mm → H_4.size ≤ x ∨ (kTy D H_4 x ∧ c0 ≤ x ∧ x < c1) := fun x h => by rw [h]; exact Or.inr ⟨Or.inl ⟨2, _, by decide, by decide, by decide, h_13⟩, i_mm.1, w_mm⟩
    have ty_ta : ∀ x, x = ta → H_4.size ≤ x ∨ (kTy D H_4 x ∧ c0 ≤ x ∧ x < c1) := fun x h => by rw [h]; exact Or.inr ⟨Or.inr ⟨0, _, by decide, h_17⟩, i_ta.1, w_ta⟩
    refine kx_ci (va_runV (As := [.int (kI (z1))]) (rest := []) ⟨hx, hb, hml, hown, hts⟩ (m_X3_append l D H_4 mm ra sa ka ta nh ik t.length th sp9 iw le9 fi9 se9 gt z1 h_13 h_17 n_mm_ta b_mm b_ta hA ht9) (cwV 1 hts (lw_V q2589 q2590 q2591 q89 q2592) rfl rfl rfl (by decide +kernel) ⟨Nat.le_of_ble_eq_true rfl, Nat.le_of_ble_eq_true rfl⟩) (kx_pv hK hS_2 hB (kx_rc hK h_13 (C := RX3) (T := TX3) (N := 13) rfl)) rfl rfl hl.1 rfl (lv_room (Nat.le_of_ble_eq_true rfl)) dL_law_2273 ⟨by first | (dsimp only [lwR]; omega) | omega | exact Nat.le_of_ble_eq_true rfl, by first | (dsimp only [lwR]; omega) | omega | exact Nat.le_of_ble_eq_true rfl⟩) hS_2 (fun q _ h => (fun h => Or.elim h (ge_mm q) (ge_ta q)) h) (fun q h => (fun h => Or.elim h (ge_mm q) (ge_ta q)) h) (fun z_23 H_21 locs_18 hz_20 hF_22 hS_19 => ?_)
    have hzf_24 := hF_22.1
    obtain ⟨hv_25, ho_26, ho_27⟩ := hz_20
    subst z_23
    have hal : (t ++ [z1]).length = t.length + 1 := by rw [List.length_append]; rfl
    have hO9 : kO D H_21 mm 2 [.ref ra, .ref sa, .int (kI ((nh : Nat) : Int)), .ref ka, .int (kI (kb (ik))), .ref ta, .int (kI (((t ++ [z1]).length : Nat) : Int)), .int (kI (0)), .int (kI (sp9)), .int (kI (kb (iw))), .int (kI (le9)), .int (kI (fi9)), .int (kI (se9))] := by rw [hal]; exact ho_26
    refine lv_istore (lv' := [(7, .int (kI ((t.length + 1 : Nat) : Int))), (6, .int (kI (0))), (0, .ref b), (1, .ref x1), (2, .ref mm), (3, .ref out), (4, .ref outD), (5, .int (kI ((3 * j : Nat) : Int)))]) hx hb dL_law_2276 hl (by decide) rfl (fun ls hl => ?_)
    refine lv_aload_n hx hb dL_law_2278 rfl (lv_at hl 4 rfl) ?_
    refine kx_ci0 (va_runV (As := []) (rest := []) ⟨hx, hb, hml, hown, hts⟩ (m_X3_thrown l D H_21 mm ra sa ka ta nh ik ((t ++ [z1]).length) 0 sp9 iw le9 fi9 se9 hO9 ) (cwV 0 hts (lw_V q2278 q2279 q2280 q89 q2281) rfl rfl rfl (by decide +kernel) ⟨Nat.le_of_ble_eq_true rfl, Nat.le_of_ble_eq_true rfl⟩) (kx_pv hK hS_19 hB (kx_rc hK hO9 (C := RX3) (T := TX3) (N := 13) rfl)) rfl rfl hl.1 rfl (lv_room (Nat.le_of_ble_eq_true rfl)) dL_law_2279 ⟨by first | (dsimp only [lwR]; omega) | omega | exact Nat.le_of_ble_eq_true rfl, by first | (dsimp only [lwR]; omega) | omega | exact Nat.le_of_ble_eq_true rfl⟩) hS_19 (fun z_31 locs_28 hz_30 hS_29 => ?_)
    subst z_31
    refine lv_iload hx hb dL_law_2282 (lv_at hl 1 rfl) ?_
    refine kx_icmp_eq (x := 0) (y := 0) (tgt := 2289) hx hb dL_law_2284 (by decide) (by omega) (by omega) (by omega) (by omega) (fun c_2284_32 => ?_) (fun c_2284_32 => ?_)
    · -- taken at 2284
      refine lv_iload hx hb dL_law_2289 (lv_at hl 1 rfl) ?_
      refine kx_if_ne (x := 0) (tgt := 2306) hx hb dL_law_2291 (by decide) (by omega) (by omega) (fun c_2291_33 => ?_) (fun c_2291_33 => ?_)
      · -- taken at 2291
        exfalso; omega
      · -- not taken at 2291
        refine lv_aload_n hx hb dL_law_2294 rfl (lv_at hl 5 rfl) ?_
        refine kx_iconst hx hb dL_law_2295 ?_
        have h_34 := ho_12.fr hF_22 (fun h => Or.elim h (n_mm_out.sm) (n_ta_out.sm))
        refine kx_lald (i := 0) hx hb hK h_34 0 rfl (by decide) (by decide) dL_law_2296 ?_
        refine lv_iload hx hb dL_law_2297 (lv_at hl 0 rfl) ?_
        refine kx_i2l hx hb (z := ((t.length + 1 : Nat) : Int)) (by omega) (by omega) dL_law_2299 ?_
        refine kx_lcmpE hx hb (x := ((kup go 0 (kL (((t.length + 1 : Nat) : Int))))) 0) (y := kL (((t.length + 1 : Nat) : Int))) (kup_self _ _ _) dL_law_2300 ?_
        refine kx_if_eq (x := 0) (tgt := 2306) hx hb dL_law_2301 (by decide) (by omega) (by omega) (fun c_2301_35 => ?_) (fun c_2301_35 => ?_)
        · -- taken at 2301
          refine lv_goto (tgt := 2493) hx hb dL_law_2306 (by decide) ?_
          have h_36 := h_14.fr hF_22 (fun h => Or.elim h (n_mm_ra.sm) (n_ra_ta))
          have h_37 := h_15.fr hF_22 (fun h => Or.elim h (n_mm_sa.sm) (n_sa_ta))
          have h_38 := h_16.fr hF_22 (fun h => Or.elim h (n_mm_ka.sm) (n_ka_ta))
          have h_39 := hA_outD.fr hF_5 (fun h => Or.elim h (n_out_outD.sm) (fun h => Or.elim h (io_bu _ i_outD w_outD) (fun h => Or.elim h (io_vb _ i_outD w_outD) (fun h => Nat.not_le_of_gt hA_outD.lt h))))
          have h_40 := h_39.fr hF_22 (fun h => Or.elim h (n_mm_outD.sm) (n_ta_outD.sm))
          have h_41 := hW9.fr hd9 hF_22 (fun x => (fun h => Or.elim h (ty_mm x) (ty_ta x)))
          refine W.widen (k := cells + 50000) (n := slots + 228000) (by omega) (by omega) ?_
          have hM9 : kM D H_21 c0 out mm (S, gap) ((sl.map Prod.snd).head?) (hl2.map Prod.snd) (t ++ [z1]) := ⟨ra, sa, ka, ta, _, _, _, _, _, _, _, _, _, _, _, _, hO9, h_36, h_37, h_38, ho_27, hMr, hMh, hMk, (hMt.snoc (fun k hk => kup_ne (Nat.ne_of_lt hk)) (kup_self _ _ _) hA), (by rw [hal]; omega), hMd, hMb, hMi⟩
          exact kk (S, gap) ((sl.map Prod.snd).head?) (hl2.map Prod.snd) (t ++ [z1]) _ _ _ ⟨hS_29, lv_sub hl [2, 3, 4, 5, 6, 7] rfl, h_41, hM9, ⟨_, h_34⟩, ⟨_, h_40⟩, by omega, by rw [hal]; omega⟩
        · -- not taken at 2301
          exfalso; omega
    · -- not taken at 2284
      exfalso; omega
  · -- hA
    refine lv_aload_n hx hb dL_law_2253 rfl (lv_at hl 1 rfl) ?_
    refine lv_aload_n hx hb dL_law_2254 rfl (lv_at hl 0 rfl) ?_
    refine lv_iload hx hb dL_law_2255 (lv_at hl 5 rfl) ?_
    refine kx_iconst hx hb dL_law_2257 ?_
    refine kx_iadd hx hb dL_law_2258 ?_
    refine kx_sld (i := (((3 * j : Nat) : Int) + 1)) hx hb hX hbl hbA hS (3 * j + 1) (by omega) (by omega) (by omega) dL_law_2259 ?_
    refine kx_eqi (z1) (hz1.symm) ?_
    refine lv_aload_n hx hb dL_law_2260 rfl (lv_at hl 3 rfl) ?_
    refine kx_ci (vx_runSW (As := [.ref x1, .int (kI (z1)), .ref out]) (rest := []) ⟨hx, hb, hml, hown, hts⟩ (wx_append_1 l hl9 D H x1 st ((sl.map (fun a => a.1.1)).head?) hi bu z1 out hO_x1 (by first | assumption | omega) (by first | assumption | omega)) (vx_cwSW 3 hts (lw_SW q2164 q2165 q78 q2166) rfl rfl rfl (by decide +kernel) ⟨Nat.le_of_ble_eq_true rfl, Nat.le_of_ble_eq_true rfl⟩) (kx_ps hK hS hB) rfl rfl hl.1 rfl (lv_room (Nat.le_of_ble_eq_true rfl)) dL_law_2261 ⟨by first | (dsimp only [lwR]; omega) | omega | exact Nat.le_of_ble_eq_true rfl, by first | (dsimp only [lwR]; omega) | omega | exact Nat.le_of_ble_eq_true rfl⟩) hS (fun q _ h => by have h9 := hS.1; (try dsimp only at h); (try dsimp only); (try simp only [kNW] at h); (try simp only [kNW]); omega) (fun q h => by have h9 := hS.1; (try dsimp only at h); (try dsimp only); (try simp only [kNW] at h); (try simp only [kNW]); omega) (fun z_47 H_45 locs_42 hz_44 hF_46 hS_43 => ?_)
    have hzf_48 := hF_46.1
    have hF_46 := hF_46.nw
    obtain ⟨hv_49, hnw_50⟩ := hz_44
    subst z_47
    refine lv_istore (lv' := [(6, .int (kI (1))), (0, .ref b), (1, .ref x1), (2, .ref mm), (3, .ref out), (4, .ref outD), (5, .int (kI ((3 * j : Nat) : Int)))]) hx hb dL_law_2264 hl (by decide) rfl (fun ls hl => ?_)
    refine lv_aload_n hx hb dL_law_2266 rfl (lv_at hl 3 rfl) ?_
    refine lv_aload_n hx hb dL_law_2267 rfl (lv_at hl 1 rfl) ?_
    refine lv_iload hx hb dL_law_2268 (lv_at hl 6 rfl) ?_
    refine kx_iconst hx hb dL_law_2270 ?_
    refine kx_iadd hx hb dL_law_2271 ?_
    refine kx_sld (i := (((3 * j : Nat) : Int) + 1)) hx hb hX hbl hbA hS_43 (3 * j + 1) (by omega) (by omega) (by omega) dL_law_2272 ?_
    refine kx_eqi (z1) (hz1.symm) ?_
    have h_51 := hO_mm.ex hF_46
    have h_52 := hA_ra.ex hF_46
    have h_53 := hA_sa.ex hF_46
    have h_54 := hA_ka.ex hF_46
    have h_55 := hA_ta.ex hF_46
    have ty_mm : ∀ x, x = mm → H_45.size ≤ x ∨ (kTy D H_45 x ∧ c0 ≤ x ∧ x < c1) := fun x h => by rw [h]; exact Or.inr ⟨Or.inl ⟨2, _, by decide, by decide, by decide, h_51⟩, i_mm.1, w_mm⟩
    refine kx_ci (va_runV (As := [.int (kI (z1))]) (rest := []) ⟨hx, hb, hml, hown, hts⟩ (m_X3_append_no1 l D H_45 mm ra sa ka ta nh ik t.length th sp9 iw le9 fi9 se9 z1 h_51 b_mm (by first | assumption | omega) hA) (cwV 1 hts (lw_V q2589 q2590 q2591 q89 q2592) rfl rfl rfl (by decide +kernel) ⟨Nat.le_of_ble_eq_true rfl, Nat.le_of_ble_eq_true rfl⟩) (kx_pv hK hS_43 hB (kx_rc hK h_51 (C := RX3) (T := TX3) (N := 13) rfl)) rfl rfl hl.1 rfl (lv_room (Nat.le_of_ble_eq_true rfl)) dL_law_2273 ⟨by first | (dsimp only [lwR]; omega) | omega | exact Nat.le_of_ble_eq_true rfl, by first | (dsimp only [lwR]; omega) | omega | exact Nat.le_of_ble_eq_true rfl⟩) hS_43 (fun q _ h => (ge_mm q) h) (fun q h => (ge_mm q) h) (fun z_61 H_59 locs_56 hz_58 hF_60 hS_57 => ?_)
    have hzf_62 := hF_60.1
    obtain ⟨hv_63, ho_64⟩ := hz_58
    subst z_61
    refine lv_istore (lv' := [(7, .int (kI (0))), (6, .int (kI (1))), (0, .ref b), (1, .ref x1), (2, .ref mm), (3, .ref out), (4, .ref outD), (5, .int (kI ((3 * j : Nat) : Int)))]) hx hb dL_law_2276 hl (by decide) rfl (fun ls hl => ?_)
    refine lv_aload_n hx hb dL_law_2278 rfl (lv_at hl 4 rfl) ?_
    refine kx_ci0 (va_runV (As := []) (rest := []) ⟨hx, hb, hml, hown, hts⟩ (m_X3_thrown l D H_59 mm ra sa ka ta nh ik t.length 1 sp9 iw le9 fi9 se9 ho_64 ) (cwV 0 hts (lw_V q2278 q2279 q2280 q89 q2281) rfl rfl rfl (by decide +kernel) ⟨Nat.le_of_ble_eq_true rfl, Nat.le_of_ble_eq_true rfl⟩) (kx_pv hK hS_57 hB (kx_rc hK ho_64 (C := RX3) (T := TX3) (N := 13) rfl)) rfl rfl hl.1 rfl (lv_room (Nat.le_of_ble_eq_true rfl)) dL_law_2279 ⟨by first | (dsimp only [lwR]; omega) | omega | exact Nat.le_of_ble_eq_true rfl, by first | (dsimp only [lwR]; omega) | omega | exact Nat.le_of_ble_eq_true rfl⟩) hS_57 (fun z_68 locs_65 hz_67 hS_66 => ?_)
    subst z_68
    refine lv_iload hx hb dL_law_2282 (lv_at hl 1 rfl) ?_
    refine kx_icmp_eq (x := 1) (y := 1) (tgt := 2289) hx hb dL_law_2284 (by decide) (by omega) (by omega) (by omega) (by omega) (fun c_2284_69 => ?_) (fun c_2284_69 => ?_)
    · -- taken at 2284
      refine lv_iload hx hb dL_law_2289 (lv_at hl 1 rfl) ?_
      refine kx_if_ne (x := 1) (tgt := 2306) hx hb dL_law_2291 (by decide) (by omega) (by omega) (fun c_2291_70 => ?_) (fun c_2291_70 => ?_)
      · -- taken at 2291
        refine lv_goto (tgt := 2493) hx hb dL_law_2306 (by decide) ?_
        have h_71 := h_52.fr hF_60 (n_mm_ra.sm)
        have h_72 := h_53.fr hF_60 (n_mm_sa.sm)
        have h_73 := h_54.fr hF_60 (n_mm_ka.sm)
        have h_74 := h_55.fr hF_60 (n_mm_ta.sm)
        have h_75 := hA_out.ex hF_46
        have h_76 := h_75.fr hF_60 (n_mm_out.sm)
        have h_77 := hA_outD.ex hF_46
        have h_78 := h_77.fr hF_60 (n_mm_outD.sm)
        have h_79 := hW.ex hd9 hF_46
        have h_80 := h_79.fr hd9 hF_60 (fun x => (ty_mm x))
        refine W.widen (k := cells + 50000) (n := slots + 228000) (by omega) (by omega) ?_
        have hM9 : kM D H_59 c0 out mm (S, gap) ((sl.map Prod.snd).head?) (hl2.map Prod.snd) t := ⟨ra, sa, ka, ta, _, _, _, _, _, _, _, _, _, _, _, _, ho_64, h_71, h_72, h_73, h_74, hMr, hMh, hMk, hMt, ht60, hMd, hMb, hMi⟩
        exact kk (S, gap) ((sl.map Prod.snd).head?) (hl2.map Prod.snd) t _ _ _ ⟨hS_66, lv_sub hl [2, 3, 4, 5, 6, 7] rfl, h_80, hM9, ⟨_, h_76⟩, ⟨_, h_78⟩, by omega, by omega⟩
      · -- not taken at 2291
        exfalso; omega
    · -- not taken at 2284
      exfalso; omega

set_option maxHeartbeats 8000000 in
set_option maxRecDepth 100000 in
theorem lc_clearText {p : Program} {e : Env} {s : State} {m : MethodId} {below : List Frame} {meth : Method} {c : Code} {l : Launch} {D : kG} {b L c0 c1 x1 mm out outD : Nat} {xs : Nat → Int32} {Q : State → Prop} (C0 : lwC D p l s m meth c b L c0 c1 out outD xs) {j : Nat} (hj : 3 * j + 3 ≤ L) {S : Ls} {gap : Int} {sn : Option Sg} {hs : List Sg} {t : List Int} {H : Heap} {locs : List Loc} {ls : Array Slot} (I0 : lwI D s b c0 c1 x1 mm out outD j j (S, gap) sn hs t H locs ls) {cells slots : Nat} (hcl : cells + 50000 ≤ 1200144) (hsl9 : slots + 228000 ≤ 5496058) (kk : ∀ (σ : Sg) (sn : Option Sg) (hs : List Sg) (t : List Int) (H : Heap) (locs : List Loc) (ls : Array Slot), lwI D s b c0 c1 x1 mm out outD j (j + 1) σ sn hs t H locs ls → W p l e lwR s m #[Value.ref b] below meth c H locs (cells + 50000) (slots + 228000) Q (F0 m 2493 ls [])) : W p l e lwR s m #[Value.ref b] below meth c H locs cells slots Q (F0 m 2309 ls []) := by
  obtain ⟨hx, hb, hml, hown, hts, hlk, hK, hl9, hX, hbl, hbs, hL72, hc0, hco, hod, hdc⟩ := C0
  obtain ⟨hS, hl, hW, hM, ⟨go, hA_out⟩, ⟨gd, hA_outD⟩, hc1, htl⟩ := I0
  have hB : ∀ q, (kNW s.heap) q → kBase D ≤ q := fun q h => Nat.le_trans hK.size h
  have hbA : ¬ (kNW s.heap) b := fun h => by have h9 : s.heap.size ≤ b := h; omega
  have hd9 := hK.dis
  have hxE : ¬ kBase D ≤ D.2.2.2 2 := hK.tE.out
  obtain ⟨z1, hz1⟩ : ∃ z, z = (xs (3 * j + 1)).toInt := ⟨_, rfl⟩
  obtain ⟨z2, hz2⟩ : ∃ z, z = (xs (3 * j + 2)).toInt := ⟨_, rfl⟩
  have hr1 : -2147483648 ≤ z1 ∧ z1 ≤ 2147483647 := by rw [hz1]; exact i32r _
  have hr2 : -2147483648 ≤ z2 ∧ z2 ≤ 2147483647 := by rw [hz2]; exact i32r _
  obtain ⟨⟨st, la, ea, F⟩, sl, hl2, hi, es, bu, vb, hO_x1, hDq, hTx, hX5, hev, hAl, hDj, hPw, hsl, hsn, hhs⟩ := id hW
  subst hsn
  subst hhs
  obtain ⟨ra, sa, ka, ta, nh, ik, th, sp9, iw, le9, fi9, se9, g, gs, gk, gt, hO_mm, hA_ra, hA_sa, hA_ka, hA_ta, hMr, hMh, hMk, hMt, ht60, hMd, hMb, hMi⟩ := id hM
  have hMr : MRow g S gap := hMr
  have h0 := hAl _ List.mem_cons_self
  have hP_kState_st : kState D H st la ea gap S F := h0.1
  have hok : LsOK S gap := h0.2.1
  have hG : StG S := h0.2.2.1
  have hL8 : S.length ≤ 8 := hok.1
  have hgp := hok.2.1
  have hO_x1 : kO D H x1 0 [.ref st, va_rf ((sl.map (fun a => a.1.1)).head?), .ref hi, .ref bu] := hO_x1
  have hOw : ∀ q, kOwn D st la ea F S.length q → q ∉ [x1, hi, es, bu, vb] ∧ (q < c0 ∨ c1 ≤ q) := h0.2.2.2
  have hev : Hd (es ≠ vb) := hev
  have io_x1 : ∀ x, c0 ≤ x → x < c1 → x ≠ x1 := fun x => out_of (hX5 x1 (by simp)).2
  have io_hi : ∀ x, c0 ≤ x → x < c1 → x ≠ hi := fun x => out_of (hX5 hi (by simp)).2
  have io_es : ∀ x, c0 ≤ x → x < c1 → x ≠ es := fun x => out_of (hX5 es (by simp)).2
  have io_bu : ∀ x, c0 ≤ x → x < c1 → x ≠ bu := fun x => out_of (hX5 bu (by simp)).2
  have io_vb : ∀ x, c0 ≤ x → x < c1 → x ≠ vb := fun x => out_of (hX5 vb (by simp)).2
  have b_x1 := (hX5 x1 (by simp)).1
  have b_hi := (hX5 hi (by simp)).1
  have b_es := (hX5 es (by simp)).1
  have b_bu := (hX5 bu (by simp)).1
  have b_vb := (hX5 vb (by simp)).1
  obtain ⟨⟨⟨n1, n2, n3, n4⟩, n5, n6, n7⟩, n8, n9, n10⟩ := hMd
  have n_mm_ra : Hd (mm ≠ ra) := n1
  have n_mm_sa : Hd (mm ≠ sa) := n2
  have n_mm_ka : Hd (mm ≠ ka) := n3
  have n_mm_ta : Hd (mm ≠ ta) := n4
  have n_ra_sa : Hd (ra ≠ sa) := n5
  have n_ra_ka : Hd (ra ≠ ka) := n6
  have n_ra_ta : Hd (ra ≠ ta) := n7
  have n_sa_ka : Hd (sa ≠ ka) := n8
  have n_sa_ta : Hd (sa ≠ ta) := n9
  have n_ka_ta : Hd (ka ≠ ta) := n10
  have hMd : Hd (((mm ≠ ra ∧ mm ≠ sa ∧ mm ≠ ka ∧ mm ≠ ta) ∧ ra ≠ sa ∧ ra ≠ ka ∧ ra ≠ ta) ∧ sa ≠ ka ∧ sa ≠ ta ∧ ka ≠ ta) := ⟨⟨⟨n1, n2, n3, n4⟩, n5, n6, n7⟩, n8, n9, n10⟩
  clear n1 n2 n3 n4 n5 n6 n7 n8 n9 n10
  obtain ⟨b_mm, b_ra, b_sa, b_ka, b_ta⟩ := id hMb
  obtain ⟨i_mm, i_ra, i_sa, i_ka, i_ta⟩ := id hMi
  have b_out : kBase D ≤ out := by omega
  have hcc : c0 ≤ c1 := by omega
  have w_mm : mm < c1 := by omega
  have n_mm_out : Hd (mm ≠ out) := Nat.ne_of_lt i_mm.2
  have n_mm_outD : Hd (mm ≠ outD) := Nat.ne_of_lt (Nat.lt_trans i_mm.2 hod)
  have w_ra : ra < c1 := by omega
  have n_ra_out : Hd (ra ≠ out) := Nat.ne_of_lt i_ra.2
  have n_ra_outD : Hd (ra ≠ outD) := Nat.ne_of_lt (Nat.lt_trans i_ra.2 hod)
  have w_sa : sa < c1 := by omega
  have n_sa_out : Hd (sa ≠ out) := Nat.ne_of_lt i_sa.2
  have n_sa_outD : Hd (sa ≠ outD) := Nat.ne_of_lt (Nat.lt_trans i_sa.2 hod)
  have w_ka : ka < c1 := by omega
  have n_ka_out : Hd (ka ≠ out) := Nat.ne_of_lt i_ka.2
  have n_ka_outD : Hd (ka ≠ outD) := Nat.ne_of_lt (Nat.lt_trans i_ka.2 hod)
  have w_ta : ta < c1 := by omega
  have n_ta_out : Hd (ta ≠ out) := Nat.ne_of_lt i_ta.2
  have n_ta_outD : Hd (ta ≠ outD) := Nat.ne_of_lt (Nat.lt_trans i_ta.2 hod)
  have ge_mm : ∀ q, q = mm → kNW s.heap q := fun q h => by rw [h]; show s.heap.size ≤ mm; omega
  have ge_ra : ∀ q, q = ra → kNW s.heap q := fun q h => by rw [h]; show s.heap.size ≤ ra; omega
  have ge_sa : ∀ q, q = sa → kNW s.heap q := fun q h => by rw [h]; show s.heap.size ≤ sa; omega
  have ge_ka : ∀ q, q = ka → kNW s.heap q := fun q h => by rw [h]; show s.heap.size ≤ ka; omega
  have ge_ta : ∀ q, q = ta → kNW s.heap q := fun q h => by rw [h]; show s.heap.size ≤ ta; omega
  have ge_out : ∀ q, q = out → kNW s.heap q := fun q h => by rw [h]; show s.heap.size ≤ out; omega
  have n_out_outD : Hd (out ≠ outD) := Nat.ne_of_lt hod
  have w_out : out < c1 := by omega
  have w_outD : outD < c1 := hdc
  have i_outD : c0 ≤ outD := by omega
  have htyo : kTy D H out := Or.inr ⟨2, _, by decide, hA_out⟩
  have htyd : kTy D H outD := Or.inr ⟨3, _, by decide, hA_outD⟩
  have to_out : ∀ x, x = out → H.size ≤ x ∨ (kTy D H x ∧ c0 ≤ x ∧ x < c1) := fun x h => by rw [h]; exact Or.inr ⟨htyo, hco, w_out⟩
  have to_outD : ∀ x, x = outD → H.size ≤ x ∨ (kTy D H x ∧ c0 ≤ x ∧ x < c1) := fun x h => by rw [h]; exact Or.inr ⟨htyd, i_outD, w_outD⟩
  obtain ⟨⟨hO_st, mc9, hO_la⟩, hLs9, hLn9, hF9, hDs9, hb1, hb2, hb3⟩ := id hP_kState_st
  have hbz : kBase D ≤ H.size := by omega
  have neo : Hd (bu ≠ out ∧ vb ≠ out) := ⟨(io_bu out hco w_out).symm, (io_vb out hco w_out).symm⟩
  have neo1 : Hd (x1 ≠ out) := (io_x1 out hco w_out).symm
  refine lv_aload_n hx hb dL_law_2309 rfl (lv_at hl 1 rfl) ?_
  refine kx_ci (va_runV (As := []) (rest := []) ⟨hx, hb, hml, hown, hts⟩ (m_X1_clearText l D H x1 st ((sl.map (fun a => a.1.1)).head?) hi bu vb t hO_x1 hTx (by first | assumption | omega) (by first | assumption | omega)) (cwV 0 hts (lw_V q1288 q1289 q1290 q79 q1291) rfl rfl rfl (by decide +kernel) ⟨Nat.le_of_ble_eq_true rfl, Nat.le_of_ble_eq_true rfl⟩) (kx_pv hK hS hB (kx_rc hK hO_x1 (C := RX1) (T := TX1) (N := 4) rfl)) rfl rfl hl.1 rfl (lv_room (Nat.le_of_ble_eq_true rfl)) dL_law_2310 ⟨by first | (dsimp only [lwR]; omega) | omega | exact Nat.le_of_ble_eq_true rfl, by first | (dsimp only [lwR]; omega) | omega | exact Nat.le_of_ble_eq_true rfl⟩) hS (fun q _ h => (fun h => by rw [h]; show s.heap.size ≤ bu; omega) h) (fun q h => (fun h => by rw [h]; show s.heap.size ≤ bu; omega) h) (fun z_6 H_4 locs_1 hz_3 hF_5 hS_2 => ?_)
  have hzf_7 := hF_5.1
  obtain ⟨hv_8, ho_9, ho_10⟩ := hz_3
  subst z_6
  have hW9 : kW D H_4 c0 c1 x1 (S, gap) ((sl.map Prod.snd).head?) (hl2.map Prod.snd) ([] : List Int) := kW.text (out := out) (κ := (st, la, ea, F)) (σ := (S, gap)) hd9 hxE hDq hTx hX5 hev hAl hDj hPw hsl hO_x1.lt hbz ⟨hF_5.1, fun q y1 y2 => hF_5.2 q y1 (fun h => y2 (Or.inr (Or.inl h)))⟩ htyo ⟨hco, w_out⟩ hc1 ho_9 ho_10 (Or.inl rfl)
  refine lv_aload_n hx hb dL_law_2313 rfl (lv_at hl 2 rfl) ?_
  have h_11 := hO_mm.fr hF_5 (io_bu _ i_mm.1 w_mm)
  have h_12 := hA_ra.fr hF_5 (io_bu _ i_ra.1 w_ra)
  have h_13 := hA_sa.fr hF_5 (io_bu _ i_sa.1 w_sa)
  have h_14 := hA_ka.fr hF_5 (io_bu _ i_ka.1 w_ka)
  have h_15 := hA_ta.fr hF_5 (io_bu _ i_ta.1 w_ta)
  have ty_mm : ∀ x, x = mm → H_4.size ≤ x ∨ (kTy D H_4 x ∧ c0 ≤ x ∧ x < c1) := fun x h => by rw [h]; exact Or.inr ⟨Or.inl ⟨2, _, by decide, by decide, by decide, h_11⟩, i_mm.1, w_mm⟩
  refine kx_ci (va_runV (As := []) (rest := [.int (kI ((t.length : Nat) : Int))]) ⟨hx, hb, hml, hown, hts⟩ (m_X3_clearText l D H_4 mm ra sa ka ta nh ik t.length th sp9 iw le9 fi9 se9 h_11 b_mm) (cwV 0 hts (lw_V q2593 q2594 q2595 q89 q2596) rfl rfl rfl (by decide +kernel) ⟨Nat.le_of_ble_eq_true rfl, Nat.le_of_ble_eq_true rfl⟩) (kx_pv hK hS_2 hB (kx_rc hK h_11 (C := RX3) (T := TX3) (N := 13) rfl)) rfl rfl hl.1 rfl (lv_room (Nat.le_of_ble_eq_true rfl)) dL_law_2314 ⟨by first | (dsimp only [lwR]; omega) | omega | exact Nat.le_of_ble_eq_true rfl, by first | (dsimp only [lwR]; omega) | omega | exact Nat.le_of_ble_eq_true rfl⟩) hS_2 (fun q _ h => (ge_mm q) h) (fun q h => (ge_mm q) h) (fun z_21 H_19 locs_16 hz_18 hF_20 hS_17 => ?_)
  have hzf_22 := hF_20.1
  obtain ⟨hv_23, ho_24⟩ := hz_18
  subst z_21
  refine kx_icmp_eq (x := ((t.length : Nat) : Int)) (y := ((t.length : Nat) : Int)) (tgt := 2493) hx hb dL_law_2317 (by decide) (by omega) (by omega) (by omega) (by omega) (fun cd9 => ?_) (fun cd9 => ?_)
  · -- taken at 2317
    have h_25 := h_12.fr hF_20 (n_mm_ra.sm)
    have h_26 := h_13.fr hF_20 (n_mm_sa.sm)
    have h_27 := h_14.fr hF_20 (n_mm_ka.sm)
    have h_28 := h_15.fr hF_20 (n_mm_ta.sm)
    have h_29 := hA_out.fr hF_5 (io_bu _ hco w_out)
    have h_30 := h_29.fr hF_20 (n_mm_out.sm)
    have h_31 := hA_outD.fr hF_5 (io_bu _ i_outD w_outD)
    have h_32 := h_31.fr hF_20 (n_mm_outD.sm)
    have h_33 := hW9.fr hd9 hF_20 (fun x => (ty_mm x))
    refine W.widen (k := cells + 50000) (n := slots + 228000) (by omega) (by omega) ?_
    have hM9 : kM D H_19 c0 out mm (S, gap) ((sl.map Prod.snd).head?) (hl2.map Prod.snd) ([] : List Int) := ⟨ra, sa, ka, ta, _, _, _, _, _, _, _, _, _, _, _, _, ho_24, h_25, h_26, h_27, h_28, hMr, hMh, hMk, (fun i h => absurd h (Nat.not_lt_zero i)), (Nat.zero_le _), hMd, hMb, hMi⟩
    exact kk (S, gap) ((sl.map Prod.snd).head?) (hl2.map Prod.snd) ([] : List Int) _ _ _ ⟨hS_17, lv_sub hl [0, 1, 2, 3, 4, 5] rfl, h_33, hM9, ⟨_, h_30⟩, ⟨_, h_32⟩, by omega, Nat.zero_le _⟩
  · -- not taken at 2317
    exfalso; omega

set_option maxHeartbeats 8000000 in
set_option maxRecDepth 100000 in
theorem lc_undo {p : Program} {e : Env} {s : State} {m : MethodId} {below : List Frame} {meth : Method} {c : Code} {l : Launch} {D : kG} {b L c0 c1 x1 mm out outD : Nat} {xs : Nat → Int32} {Q : State → Prop} (C0 : lwC D p l s m meth c b L c0 c1 out outD xs) {j : Nat} (hj : 3 * j + 3 ≤ L) {S : Ls} {gap : Int} {sn : Option Sg} {hs : List Sg} {t : List Int} {H : Heap} {locs : List Loc} {ls : Array Slot} (I0 : lwI D s b c0 c1 x1 mm out outD j j (S, gap) sn hs t H locs ls) {cells slots : Nat} (hcl : cells + 50000 ≤ 1200144) (hsl9 : slots + 228000 ≤ 5496058) (kk : ∀ (σ : Sg) (sn : Option Sg) (hs : List Sg) (t : List Int) (H : Heap) (locs : List Loc) (ls : Array Slot), lwI D s b c0 c1 x1 mm out outD j (j + 1) σ sn hs t H locs ls → W p l e lwR s m #[Value.ref b] below meth c H locs (cells + 50000) (slots + 228000) Q (F0 m 2493 ls [])) : W p l e lwR s m #[Value.ref b] below meth c H locs cells slots Q (F0 m 2379 ls []) := by
  obtain ⟨hx, hb, hml, hown, hts, hlk, hK, hl9, hX, hbl, hbs, hL72, hc0, hco, hod, hdc⟩ := C0
  obtain ⟨hS, hl, hW, hM, ⟨go, hA_out⟩, ⟨gd, hA_outD⟩, hc1, htl⟩ := I0
  have hB : ∀ q, (kNW s.heap) q → kBase D ≤ q := fun q h => Nat.le_trans hK.size h
  have hbA : ¬ (kNW s.heap) b := fun h => by have h9 : s.heap.size ≤ b := h; omega
  have hd9 := hK.dis
  have hxE : ¬ kBase D ≤ D.2.2.2 2 := hK.tE.out
  obtain ⟨z1, hz1⟩ : ∃ z, z = (xs (3 * j + 1)).toInt := ⟨_, rfl⟩
  obtain ⟨z2, hz2⟩ : ∃ z, z = (xs (3 * j + 2)).toInt := ⟨_, rfl⟩
  have hr1 : -2147483648 ≤ z1 ∧ z1 ≤ 2147483647 := by rw [hz1]; exact i32r _
  have hr2 : -2147483648 ≤ z2 ∧ z2 ≤ 2147483647 := by rw [hz2]; exact i32r _
  obtain ⟨⟨st, la, ea, F⟩, sl, hl2, hi, es, bu, vb, hO_x1, hDq, hTx, hX5, hev, hAl, hDj, hPw, hsl, hsn, hhs⟩ := id hW
  subst hsn
  subst hhs
  obtain ⟨ra, sa, ka, ta, nh, ik, th, sp9, iw, le9, fi9, se9, g, gs, gk, gt, hO_mm, hA_ra, hA_sa, hA_ka, hA_ta, hMr, hMh, hMk, hMt, ht60, hMd, hMb, hMi⟩ := id hM
  have hMr : MRow g S gap := hMr
  have h0 := hAl _ List.mem_cons_self
  have hP_kState_st : kState D H st la ea gap S F := h0.1
  have hok : LsOK S gap := h0.2.1
  have hG : StG S := h0.2.2.1
  have hL8 : S.length ≤ 8 := hok.1
  have hgp := hok.2.1
  have hO_x1 : kO D H x1 0 [.ref st, va_rf ((sl.map (fun a => a.1.1)).head?), .ref hi, .ref bu] := hO_x1
  have hOw : ∀ q, kOwn D st la ea F S.length q → q ∉ [x1, hi, es, bu, vb] ∧ (q < c0 ∨ c1 ≤ q) := h0.2.2.2
  have hev : Hd (es ≠ vb) := hev
  have io_x1 : ∀ x, c0 ≤ x → x < c1 → x ≠ x1 := fun x => out_of (hX5 x1 (by simp)).2
  have io_hi : ∀ x, c0 ≤ x → x < c1 → x ≠ hi := fun x => out_of (hX5 hi (by simp)).2
  have io_es : ∀ x, c0 ≤ x → x < c1 → x ≠ es := fun x => out_of (hX5 es (by simp)).2
  have io_bu : ∀ x, c0 ≤ x → x < c1 → x ≠ bu := fun x => out_of (hX5 bu (by simp)).2
  have io_vb : ∀ x, c0 ≤ x → x < c1 → x ≠ vb := fun x => out_of (hX5 vb (by simp)).2
  have b_x1 := (hX5 x1 (by simp)).1
  have b_hi := (hX5 hi (by simp)).1
  have b_es := (hX5 es (by simp)).1
  have b_bu := (hX5 bu (by simp)).1
  have b_vb := (hX5 vb (by simp)).1
  obtain ⟨⟨⟨n1, n2, n3, n4⟩, n5, n6, n7⟩, n8, n9, n10⟩ := hMd
  have n_mm_ra : Hd (mm ≠ ra) := n1
  have n_mm_sa : Hd (mm ≠ sa) := n2
  have n_mm_ka : Hd (mm ≠ ka) := n3
  have n_mm_ta : Hd (mm ≠ ta) := n4
  have n_ra_sa : Hd (ra ≠ sa) := n5
  have n_ra_ka : Hd (ra ≠ ka) := n6
  have n_ra_ta : Hd (ra ≠ ta) := n7
  have n_sa_ka : Hd (sa ≠ ka) := n8
  have n_sa_ta : Hd (sa ≠ ta) := n9
  have n_ka_ta : Hd (ka ≠ ta) := n10
  have hMd : Hd (((mm ≠ ra ∧ mm ≠ sa ∧ mm ≠ ka ∧ mm ≠ ta) ∧ ra ≠ sa ∧ ra ≠ ka ∧ ra ≠ ta) ∧ sa ≠ ka ∧ sa ≠ ta ∧ ka ≠ ta) := ⟨⟨⟨n1, n2, n3, n4⟩, n5, n6, n7⟩, n8, n9, n10⟩
  clear n1 n2 n3 n4 n5 n6 n7 n8 n9 n10
  obtain ⟨b_mm, b_ra, b_sa, b_ka, b_ta⟩ := id hMb
  obtain ⟨i_mm, i_ra, i_sa, i_ka, i_ta⟩ := id hMi
  have b_out : kBase D ≤ out := by omega
  have hcc : c0 ≤ c1 := by omega
  have w_mm : mm < c1 := by omega
  have n_mm_out : Hd (mm ≠ out) := Nat.ne_of_lt i_mm.2
  have n_mm_outD : Hd (mm ≠ outD) := Nat.ne_of_lt (Nat.lt_trans i_mm.2 hod)
  have w_ra : ra < c1 := by omega
  have n_ra_out : Hd (ra ≠ out) := Nat.ne_of_lt i_ra.2
  have n_ra_outD : Hd (ra ≠ outD) := Nat.ne_of_lt (Nat.lt_trans i_ra.2 hod)
  have w_sa : sa < c1 := by omega
  have n_sa_out : Hd (sa ≠ out) := Nat.ne_of_lt i_sa.2
  have n_sa_outD : Hd (sa ≠ outD) := Nat.ne_of_lt (Nat.lt_trans i_sa.2 hod)
  have w_ka : ka < c1 := by omega
  have n_ka_out : Hd (ka ≠ out) := Nat.ne_of_lt i_ka.2
  have n_ka_outD : Hd (ka ≠ outD) := Nat.ne_of_lt (Nat.lt_trans i_ka.2 hod)
  have w_ta : ta < c1 := by omega
  have n_ta_out : Hd (ta ≠ out) := Nat.ne_of_lt i_ta.2
  have n_ta_outD : Hd (ta ≠ outD) := Nat.ne_of_lt (Nat.lt_trans i_ta.2 hod)
  have ge_mm : ∀ q, q = mm → kNW s.heap q := fun q h => by rw [h]; show s.heap.size ≤ mm; omega
  have ge_ra : ∀ q, q = ra → kNW s.heap q := fun q h => by rw [h]; show s.heap.size ≤ ra; omega
  have ge_sa : ∀ q, q = sa → kNW s.heap q := fun q h => by rw [h]; show s.heap.size ≤ sa; omega
  have ge_ka : ∀ q, q = ka → kNW s.heap q := fun q h => by rw [h]; show s.heap.size ≤ ka; omega
  have ge_ta : ∀ q, q = ta → kNW s.heap q := fun q h => by rw [h]; show s.heap.size ≤ ta; omega
  have ge_out : ∀ q, q = out → kNW s.heap q := fun q h => by rw [h]; show s.heap.size ≤ out; omega
  have n_out_outD : Hd (out ≠ outD) := Nat.ne_of_lt hod
  have w_out : out < c1 := by omega
  have w_outD : outD < c1 := hdc
  have i_outD : c0 ≤ outD := by omega
  have htyo : kTy D H out := Or.inr ⟨2, _, by decide, hA_out⟩
  have htyd : kTy D H outD := Or.inr ⟨3, _, by decide, hA_outD⟩
  have to_out : ∀ x, x = out → H.size ≤ x ∨ (kTy D H x ∧ c0 ≤ x ∧ x < c1) := fun x h => by rw [h]; exact Or.inr ⟨htyo, hco, w_out⟩
  have to_outD : ∀ x, x = outD → H.size ≤ x ∨ (kTy D H x ∧ c0 ≤ x ∧ x < c1) := fun x h => by rw [h]; exact Or.inr ⟨htyd, i_outD, w_outD⟩
  obtain ⟨⟨hO_st, mc9, hO_la⟩, hLs9, hLn9, hF9, hDs9, hb1, hb2, hb3⟩ := id hP_kState_st
  have hnx : ∀ q, kOwn D st la ea F S.length q → q ≠ hi ∧ q ≠ es ∧ q ≠ x1 := fun q hq => by
    have h9 := (hOw q hq).1
    simp only [List.mem_cons, List.not_mem_nil, or_false, not_or] at h9
    exact ⟨h9.2.1, h9.2.2.1, h9.1⟩
  have hnO9 : ∀ q, kOwn D st la ea F S.length q → q ≠ out := fun q hq => (out_of (hOw q hq).2 hco w_out).symm
  have nex : Hd (x1 ≠ hi ∧ x1 ≠ es) := by
    obtain ⟨_, _, _, y1, y2, _⟩ := hDq
    exact ⟨(kO_ne hd9 y1 hO_x1 (by decide) (by decide) (by decide)).symm, kOA_ne hd9 hO_x1 y2 (by decide) (by decide)⟩
  have neo : Hd (hi ≠ out ∧ es ≠ out ∧ x1 ≠ out) := ⟨(io_hi out hco w_out).symm, (io_es out hco w_out).symm, (io_x1 out hco w_out).symm⟩
  have hn9 := hMh.1
  have hn8 := hMh.2.1
  rw [List.length_map] at hn9
  have hm9 : (hl2.map (fun a => a.1.1)).length = hl2.length := List.length_map _
  rcases l_last hl2 with hh | ⟨h3, ⟨⟨cs, la3, ea3, F3⟩, ⟨S3, gap3⟩⟩, hh⟩
  · -- case
    refine lv_aload_n hx hb dL_law_2379 rfl (lv_at hl 1 rfl) ?_
    refine lv_aload_n hx hb dL_law_2380 rfl (lv_at hl 3 rfl) ?_
    refine kx_ci (vx_runSW (As := [.ref x1, .ref out]) (rest := []) ⟨hx, hb, hml, hown, hts⟩ (wx_undo l hl9 D H x1 st ((sl.map (fun a => a.1.1)).head?) hi bu es ((hl2.map (fun a => a.1.1))) out hO_x1 hDq (by rw [hm9, hh]; rfl)) (vx_cwSW 2 hts (lw_SW q2203 q2204 q78 q2205) rfl rfl rfl (by decide +kernel) ⟨Nat.le_of_ble_eq_true rfl, Nat.le_of_ble_eq_true rfl⟩) (kx_ps hK hS hB) rfl rfl hl.1 rfl (lv_room (Nat.le_of_ble_eq_true rfl)) dL_law_2381 ⟨by first | (dsimp only [lwR]; omega) | omega | exact Nat.le_of_ble_eq_true rfl, by first | (dsimp only [lwR]; omega) | omega | exact Nat.le_of_ble_eq_true rfl⟩) hS (fun q _ h => by have h9 := hS.1; (try dsimp only at h); (try dsimp only); (try simp only [kNW] at h); (try simp only [kNW]); omega) (fun q h => by have h9 := hS.1; (try dsimp only at h); (try dsimp only); (try simp only [kNW] at h); (try simp only [kNW]); omega) (fun z_6 H_4 locs_1 hz_3 hF_5 hS_2 => ?_)
    have hzf_7 := hF_5.1
    have hF_5 := hF_5.nw
    obtain ⟨hv_8, hnw_9⟩ := hz_3
    subst z_6
    refine lv_istore (lv' := [(6, .int (kI (1))), (0, .ref b), (1, .ref x1), (2, .ref mm), (3, .ref out), (4, .ref outD), (5, .int (kI ((3 * j : Nat) : Int)))]) hx hb dL_law_2384 hl (by decide) rfl (fun ls hl => ?_)
    refine lv_aload_n hx hb dL_law_2386 rfl (lv_at hl 3 rfl) ?_
    have h_10 := hO_mm.ex hF_5
    have h_11 := hA_ra.ex hF_5
    have h_12 := hA_sa.ex hF_5
    have h_13 := hA_ka.ex hF_5
    have h_14 := hA_ta.ex hF_5
    have ty_mm : ∀ x, x = mm → H_4.size ≤ x ∨ (kTy D H_4 x ∧ c0 ≤ x ∧ x < c1) := fun x h => by rw [h]; exact Or.inr ⟨Or.inl ⟨2, _, by decide, by decide, by decide, h_10⟩, i_mm.1, w_mm⟩
    refine kx_ci (va_runV (As := []) (rest := []) ⟨hx, hb, hml, hown, hts⟩ (m_X3_undo_no l D H_4 mm ra sa ka ta nh ik t.length th sp9 iw le9 fi9 se9 h_10 b_mm (by rw [hn9, hh]; rfl)) (cwV 0 hts (lw_V q2629 q2630 q2631 q89 q2632) rfl rfl rfl (by decide +kernel) ⟨Nat.le_of_ble_eq_true rfl, Nat.le_of_ble_eq_true rfl⟩) (kx_pv hK hS_2 hB (kx_rc hK h_10 (C := RX3) (T := TX3) (N := 13) rfl)) rfl rfl hl.1 rfl (lv_room (Nat.le_of_ble_eq_true rfl)) dL_law_2387 ⟨by first | (dsimp only [lwR]; omega) | omega | exact Nat.le_of_ble_eq_true rfl, by first | (dsimp only [lwR]; omega) | omega | exact Nat.le_of_ble_eq_true rfl⟩) hS_2 (fun q _ h => (ge_mm q) h) (fun q h => (ge_mm q) h) (fun z_20 H_18 locs_15 hz_17 hF_19 hS_16 => ?_)
    have hzf_21 := hF_19.1
    obtain ⟨hv_22, ho_23⟩ := hz_17
    subst z_20
    refine lv_istore (lv' := [(7, .int (kI (0))), (6, .int (kI (1))), (0, .ref b), (1, .ref x1), (2, .ref mm), (3, .ref out), (4, .ref outD), (5, .int (kI ((3 * j : Nat) : Int)))]) hx hb dL_law_2390 hl (by decide) rfl (fun ls hl => ?_)
    refine lv_aload_n hx hb dL_law_2392 rfl (lv_at hl 4 rfl) ?_
    refine kx_ci0 (va_runV (As := []) (rest := []) ⟨hx, hb, hml, hown, hts⟩ (m_X3_thrown l D H_18 mm ra sa ka ta nh ik t.length 1 sp9 iw le9 fi9 se9 ho_23 ) (cwV 0 hts (lw_V q2278 q2279 q2280 q89 q2281) rfl rfl rfl (by decide +kernel) ⟨Nat.le_of_ble_eq_true rfl, Nat.le_of_ble_eq_true rfl⟩) (kx_pv hK hS_16 hB (kx_rc hK ho_23 (C := RX3) (T := TX3) (N := 13) rfl)) rfl rfl hl.1 rfl (lv_room (Nat.le_of_ble_eq_true rfl)) dL_law_2393 ⟨by first | (dsimp only [lwR]; omega) | omega | exact Nat.le_of_ble_eq_true rfl, by first | (dsimp only [lwR]; omega) | omega | exact Nat.le_of_ble_eq_true rfl⟩) hS_16 (fun z_27 locs_24 hz_26 hS_25 => ?_)
    subst z_27
    refine lv_iload hx hb dL_law_2396 (lv_at hl 1 rfl) ?_
    refine kx_icmp_eq (x := 1) (y := 1) (tgt := 2403) hx hb dL_law_2398 (by decide) (by omega) (by omega) (by omega) (by omega) (fun c_2398_28 => ?_) (fun c_2398_28 => ?_)
    · -- taken at 2398
      refine lv_iload hx hb dL_law_2403 (lv_at hl 1 rfl) ?_
      refine kx_if_ne (x := 1) (tgt := 2420) hx hb dL_law_2405 (by decide) (by omega) (by omega) (fun c_2405_29 => ?_) (fun c_2405_29 => ?_)
      · -- taken at 2405
        refine lv_goto (tgt := 2493) hx hb dL_law_2420 (by decide) ?_
        have h_30 := h_11.fr hF_19 (n_mm_ra.sm)
        have h_31 := h_12.fr hF_19 (n_mm_sa.sm)
        have h_32 := h_13.fr hF_19 (n_mm_ka.sm)
        have h_33 := h_14.fr hF_19 (n_mm_ta.sm)
        have h_34 := hA_out.ex hF_5
        have h_35 := h_34.fr hF_19 (n_mm_out.sm)
        have h_36 := hA_outD.ex hF_5
        have h_37 := h_36.fr hF_19 (n_mm_outD.sm)
        have h_38 := hW.ex hd9 hF_5
        have h_39 := h_38.fr hd9 hF_19 (fun x => (ty_mm x))
        refine W.widen (k := cells + 50000) (n := slots + 228000) (by omega) (by omega) ?_
        have hM9 : kM D H_18 c0 out mm (S, gap) ((sl.map Prod.snd).head?) (hl2.map Prod.snd) t := ⟨ra, sa, ka, ta, _, _, _, _, _, _, _, _, _, _, _, _, ho_23, h_30, h_31, h_32, h_33, hMr, hMh, hMk, hMt, ht60, hMd, hMb, hMi⟩
        exact kk (S, gap) ((sl.map Prod.snd).head?) (hl2.map Prod.snd) t _ _ _ ⟨hS_25, lv_sub hl [2, 3, 4, 5, 6, 7] rfl, h_39, hM9, ⟨_, h_35⟩, ⟨_, h_37⟩, by omega, by omega⟩
      · -- not taken at 2405
        exfalso; omega
    · -- not taken at 2398
      exfalso; omega
  · -- case
    have hsn0 : 0 < hl2.length := by rw [hh]; simp
    have hGc : kGd D H c0 c1 [x1, hi, es, bu, vb] ((cs, la3, ea3, F3), (S3, gap3)) := hAl _ (by rw [hh]; simp)
    have hKc : kState D H cs la3 ea3 gap3 S3 F3 := hGc.1
    obtain ⟨⟨hO_cs, -⟩, -⟩ := id hKc
    have hrv : -2147483648 ≤ (((hl2.map (fun a => a.1.1)).length - 1 : Nat) : Int) ∧ (((hl2.map (fun a => a.1.1)).length - 1 : Nat) : Int) ≤ 2147483647 := ⟨by omega, by omega⟩
    refine lv_aload_n hx hb dL_law_2379 rfl (lv_at hl 1 rfl) ?_
    refine lv_aload_n hx hb dL_law_2380 rfl (lv_at hl 3 rfl) ?_
    refine kx_ci (vx_runSW (As := [.ref x1, .ref out]) (rest := []) ⟨hx, hb, hml, hown, hts⟩ (wr_undo l hl9 D H x1 st ((sl.map (fun a => a.1.1)).head?) hi bu es ((hl2.map (fun a => a.1.1))) cs la3 gap3 out go hO_x1 hDq hO_cs hA_out (by rw [hh]; simp) (by rw [hh]; exact ud_last _ _) (by first | assumption | omega) (by first | assumption | omega) (by first | assumption | omega) (by first | assumption | omega) neo (by first | assumption | omega)) (vx_cwSW 2 hts (lw_SW q2203 q2204 q78 q2205) rfl rfl rfl (by decide +kernel) ⟨Nat.le_of_ble_eq_true rfl, Nat.le_of_ble_eq_true rfl⟩) (kx_ps hK hS hB) rfl rfl hl.1 rfl (lv_room (Nat.le_of_ble_eq_true rfl)) dL_law_2381 ⟨by first | (dsimp only [lwR]; omega) | omega | exact Nat.le_of_ble_eq_true rfl, by first | (dsimp only [lwR]; omega) | omega | exact Nat.le_of_ble_eq_true rfl⟩) hS (fun q _ h => (fun h => Or.elim h (ge_out q) (fun h => Or.elim h (fun h => by rw [h]; show s.heap.size ≤ x1; omega) (fun h => Or.elim h (fun h => by rw [h]; show s.heap.size ≤ hi; omega) (fun h => by rw [h]; show s.heap.size ≤ es; omega)))) h) (fun q h => (fun h => Or.elim h (ge_out q) (fun h => Or.elim h (fun h => by rw [h]; show s.heap.size ≤ x1; omega) (fun h => Or.elim h (fun h => by rw [h]; show s.heap.size ≤ hi; omega) (fun h => by rw [h]; show s.heap.size ≤ es; omega)))) h) (fun z_45 H_43 locs_40 hz_42 hF_44 hS_41 => ?_)
    have hzf_46 := hF_44.1
    obtain ⟨hv_47, ho_48, ho_49, ho_50⟩ := hz_42
    subst z_45
    have hW9 : kW D H_43 c0 c1 x1 (S3, gap3) ((sl.map Prod.snd).head?) ((hl2.map Prod.snd).dropLast) t := kW.undo (out := out) hd9 hO_x1 hDq hTx hX5 hev hAl hPw hsl hh hF_44 htyo ⟨hco, w_out⟩ ho_48 ho_49
    refine lv_istore (lv' := [(6, .int (kI (0))), (0, .ref b), (1, .ref x1), (2, .ref mm), (3, .ref out), (4, .ref outD), (5, .int (kI ((3 * j : Nat) : Int)))]) hx hb dL_law_2384 hl (by decide) rfl (fun ls hl => ?_)
    refine lv_aload_n hx hb dL_law_2386 rfl (lv_at hl 3 rfl) ?_
    have h_51 := hO_mm.fr hF_44 (fun h => Or.elim h (n_mm_out) (fun h => Or.elim h (io_x1 _ i_mm.1 w_mm) (fun h => Or.elim h (io_hi _ i_mm.1 w_mm) (io_es _ i_mm.1 w_mm))))
    have h_52 := hA_ra.fr hF_44 (fun h => Or.elim h (n_ra_out) (fun h => Or.elim h (io_x1 _ i_ra.1 w_ra) (fun h => Or.elim h (io_hi _ i_ra.1 w_ra) (io_es _ i_ra.1 w_ra))))
    have h_53 := hA_sa.fr hF_44 (fun h => Or.elim h (n_sa_out) (fun h => Or.elim h (io_x1 _ i_sa.1 w_sa) (fun h => Or.elim h (io_hi _ i_sa.1 w_sa) (io_es _ i_sa.1 w_sa))))
    have h_54 := hA_ka.fr hF_44 (fun h => Or.elim h (n_ka_out) (fun h => Or.elim h (io_x1 _ i_ka.1 w_ka) (fun h => Or.elim h (io_hi _ i_ka.1 w_ka) (io_es _ i_ka.1 w_ka))))
    have h_55 := hA_ta.fr hF_44 (fun h => Or.elim h (n_ta_out) (fun h => Or.elim h (io_x1 _ i_ta.1 w_ta) (fun h => Or.elim h (io_hi _ i_ta.1 w_ta) (io_es _ i_ta.1 w_ta))))
    have ty_mm : ∀ x, x = mm → H_43.size ≤ x ∨ (kTy D H_43 x ∧ c0 ≤ x ∧ x < c1) := fun x h => by rw [h]; exact Or.inr ⟨Or.inl ⟨2, _, by decide, by decide, by decide, h_51⟩, i_mm.1, w_mm⟩
    have ty_ra : ∀ x, x = ra → H_43.size ≤ x ∨ (kTy D H_43 x ∧ c0 ≤ x ∧ x < c1) := fun x h => by rw [h]; exact Or.inr ⟨Or.inr ⟨0, _, by decide, h_52⟩, i_ra.1, w_ra⟩
    refine kx_ci (va_runV (As := []) (rest := []) ⟨hx, hb, hml, hown, hts⟩ (m_X3_undo l D H_43 mm ra sa ka ta nh ik t.length th sp9 iw le9 fi9 se9 g gs S gap ((hl2.map Prod.snd)) h_51 h_52 h_53 (by first | assumption | omega) (by first | assumption | omega) (by first | assumption | omega) n_mm_ra n_mm_sa n_ra_sa b_mm b_ra b_sa (by omega)) (cwV 0 hts (lw_V q2629 q2630 q2631 q89 q2632) rfl rfl rfl (by decide +kernel) ⟨Nat.le_of_ble_eq_true rfl, Nat.le_of_ble_eq_true rfl⟩) (kx_pv hK hS_41 hB (kx_rc hK h_51 (C := RX3) (T := TX3) (N := 13) rfl)) rfl rfl hl.1 rfl (lv_room (Nat.le_of_ble_eq_true rfl)) dL_law_2387 ⟨by first | (dsimp only [lwR]; omega) | omega | exact Nat.le_of_ble_eq_true rfl, by first | (dsimp only [lwR]; omega) | omega | exact Nat.le_of_ble_eq_true rfl⟩) hS_41 (fun q _ h => (fun h => Or.elim h (ge_mm q) (ge_ra q)) h) (fun q h => (fun h => Or.elim h (ge_mm q) (ge_ra q)) h) (fun z_61 H_59 locs_56 hz_58 hF_60 hS_57 => ?_)
    have hzf_62 := hF_60.1
    obtain ⟨g2_63, hv_64, ho_65, ho_66, ho_67, hM29, hH29⟩ := hz_58
    subst z_61
    refine kx_eqi ((((hl2.map (fun a => a.1.1)).length - 1 : Nat) : Int)) (by omega) ?_
    have hsg : sg_at (hl2.map Prod.snd) (nh - 1) = (S3, gap3) := by rw [hh]; exact ud_sg h3 _ nh (by rw [List.length_map, ← hh]; exact hn9)
    rw [hsg] at hM29
    refine lv_istore (lv' := [(7, .int (kI (((hl2.map (fun a => a.1.1)).length - 1 : Nat) : Int))), (6, .int (kI (0))), (0, .ref b), (1, .ref x1), (2, .ref mm), (3, .ref out), (4, .ref outD), (5, .int (kI ((3 * j : Nat) : Int)))]) hx hb dL_law_2390 hl (by decide) rfl (fun ls hl => ?_)
    refine lv_aload_n hx hb dL_law_2392 rfl (lv_at hl 4 rfl) ?_
    refine kx_ci0 (va_runV (As := []) (rest := []) ⟨hx, hb, hml, hown, hts⟩ (m_X3_thrown l D H_59 mm ra sa ka ta (nh - 1) ik t.length 0 sp9 iw le9 fi9 se9 ho_65 ) (cwV 0 hts (lw_V q2278 q2279 q2280 q89 q2281) rfl rfl rfl (by decide +kernel) ⟨Nat.le_of_ble_eq_true rfl, Nat.le_of_ble_eq_true rfl⟩) (kx_pv hK hS_57 hB (kx_rc hK ho_65 (C := RX3) (T := TX3) (N := 13) rfl)) rfl rfl hl.1 rfl (lv_room (Nat.le_of_ble_eq_true rfl)) dL_law_2393 ⟨by first | (dsimp only [lwR]; omega) | omega | exact Nat.le_of_ble_eq_true rfl, by first | (dsimp only [lwR]; omega) | omega | exact Nat.le_of_ble_eq_true rfl⟩) hS_57 (fun z_71 locs_68 hz_70 hS_69 => ?_)
    subst z_71
    refine lv_iload hx hb dL_law_2396 (lv_at hl 1 rfl) ?_
    refine kx_icmp_eq (x := 0) (y := 0) (tgt := 2403) hx hb dL_law_2398 (by decide) (by omega) (by omega) (by omega) (by omega) (fun c_2398_72 => ?_) (fun c_2398_72 => ?_)
    · -- taken at 2398
      refine lv_iload hx hb dL_law_2403 (lv_at hl 1 rfl) ?_
      refine kx_if_ne (x := 0) (tgt := 2420) hx hb dL_law_2405 (by decide) (by omega) (by omega) (fun c_2405_73 => ?_) (fun c_2405_73 => ?_)
      · -- taken at 2405
        exfalso; omega
      · -- not taken at 2405
        refine lv_aload_n hx hb dL_law_2408 rfl (lv_at hl 5 rfl) ?_
        refine kx_iconst hx hb dL_law_2409 ?_
        have h_74 := ho_50.fr hF_60 (fun h => Or.elim h (n_mm_out.sm) (n_ra_out.sm))
        refine kx_lald (i := 0) hx hb hK h_74 0 rfl (by decide) (by decide) dL_law_2410 ?_
        refine lv_iload hx hb dL_law_2411 (lv_at hl 0 rfl) ?_
        refine kx_i2l hx hb (z := (((hl2.map (fun a => a.1.1)).length - 1 : Nat) : Int)) (by omega) (by omega) dL_law_2413 ?_
        refine kx_lcmpE hx hb (x := ((kup go 0 (kL ((((((hl2.map (fun a => a.1.1)))).length - 1 : Nat) : Int))))) 0) (y := kL ((((hl2.map (fun a => a.1.1)).length - 1 : Nat) : Int))) (kup_self _ _ _) dL_law_2414 ?_
        refine kx_if_eq (x := 0) (tgt := 2420) hx hb dL_law_2415 (by decide) (by omega) (by omega) (fun c_2415_75 => ?_) (fun c_2415_75 => ?_)
        · -- taken at 2415
          refine lv_goto (tgt := 2493) hx hb dL_law_2420 (by decide) ?_
          have h_76 := h_54.fr hF_60 (fun h => Or.elim h (n_mm_ka.sm) (n_ra_ka.sm))
          have h_77 := h_55.fr hF_60 (fun h => Or.elim h (n_mm_ta.sm) (n_ra_ta.sm))
          have h_78 := hA_outD.fr hF_44 (fun h => Or.elim h (n_out_outD.sm) (fun h => Or.elim h (io_x1 _ i_outD w_outD) (fun h => Or.elim h (io_hi _ i_outD w_outD) (io_es _ i_outD w_outD))))
          have h_79 := h_78.fr hF_60 (fun h => Or.elim h (n_mm_outD.sm) (n_ra_outD.sm))
          have h_80 := hW9.fr hd9 hF_60 (fun x => (fun h => Or.elim h (ty_mm x) (ty_ra x)))
          refine W.widen (k := cells + 50000) (n := slots + 228000) (by omega) (by omega) ?_
          have hM9 : kM D H_59 c0 out mm (S3, gap3) ((sl.map Prod.snd).head?) ((hl2.map Prod.snd).dropLast) t := ⟨ra, sa, ka, ta, _, _, _, _, _, _, _, _, _, _, _, _, ho_65, ho_66, ho_67, h_76, h_77, hM29, hH29, hMk, hMt, ht60, hMd, hMb, hMi⟩
          exact kk (S3, gap3) ((sl.map Prod.snd).head?) ((hl2.map Prod.snd).dropLast) t _ _ _ ⟨hS_69, lv_sub hl [2, 3, 4, 5, 6, 7] rfl, h_80, hM9, ⟨_, h_74⟩, ⟨_, h_79⟩, by omega, by omega⟩
        · -- not taken at 2415
          exfalso; omega
    · -- not taken at 2398
      exfalso; omega

set_option maxHeartbeats 8000000 in
set_option maxRecDepth 100000 in
theorem lc_takeSnapshot {p : Program} {e : Env} {s : State} {m : MethodId} {below : List Frame} {meth : Method} {c : Code} {l : Launch} {D : kG} {b L c0 c1 x1 mm out outD : Nat} {xs : Nat → Int32} {Q : State → Prop} (C0 : lwC D p l s m meth c b L c0 c1 out outD xs) {j : Nat} (hj : 3 * j + 3 ≤ L) {S : Ls} {gap : Int} {sn : Option Sg} {hs : List Sg} {t : List Int} {H : Heap} {locs : List Loc} {ls : Array Slot} (I0 : lwI D s b c0 c1 x1 mm out outD j j (S, gap) sn hs t H locs ls) {cells slots : Nat} (hcl : cells + 50000 ≤ 1200144) (hsl9 : slots + 228000 ≤ 5496058) (kk : ∀ (σ : Sg) (sn : Option Sg) (hs : List Sg) (t : List Int) (H : Heap) (locs : List Loc) (ls : Array Slot), lwI D s b c0 c1 x1 mm out outD j (j + 1) σ sn hs t H locs ls → W p l e lwR s m #[Value.ref b] below meth c H locs (cells + 50000) (slots + 228000) Q (F0 m 2493 ls [])) : W p l e lwR s m #[Value.ref b] below meth c H locs cells slots Q (F0 m 2436 ls []) := by
  obtain ⟨hx, hb, hml, hown, hts, hlk, hK, hl9, hX, hbl, hbs, hL72, hc0, hco, hod, hdc⟩ := C0
  obtain ⟨hS, hl, hW, hM, ⟨go, hA_out⟩, ⟨gd, hA_outD⟩, hc1, htl⟩ := I0
  have hB : ∀ q, (kNW s.heap) q → kBase D ≤ q := fun q h => Nat.le_trans hK.size h
  have hbA : ¬ (kNW s.heap) b := fun h => by have h9 : s.heap.size ≤ b := h; omega
  have hd9 := hK.dis
  have hxE : ¬ kBase D ≤ D.2.2.2 2 := hK.tE.out
  obtain ⟨z1, hz1⟩ : ∃ z, z = (xs (3 * j + 1)).toInt := ⟨_, rfl⟩
  obtain ⟨z2, hz2⟩ : ∃ z, z = (xs (3 * j + 2)).toInt := ⟨_, rfl⟩
  have hr1 : -2147483648 ≤ z1 ∧ z1 ≤ 2147483647 := by rw [hz1]; exact i32r _
  have hr2 : -2147483648 ≤ z2 ∧ z2 ≤ 2147483647 := by rw [hz2]; exact i32r _
  obtain ⟨⟨st, la, ea, F⟩, sl, hl2, hi, es, bu, vb, hO_x1, hDq, hTx, hX5, hev, hAl, hDj, hPw, hsl, hsn, hhs⟩ := id hW
  subst hsn
  subst hhs
  obtain ⟨ra, sa, ka, ta, nh, ik, th, sp9, iw, le9, fi9, se9, g, gs, gk, gt, hO_mm, hA_ra, hA_sa, hA_ka, hA_ta, hMr, hMh, hMk, hMt, ht60, hMd, hMb, hMi⟩ := id hM
  have hMr : MRow g S gap := hMr
  have h0 := hAl _ List.mem_cons_self
  have hP_kState_st : kState D H st la ea gap S F := h0.1
  have hok : LsOK S gap := h0.2.1
  have hG : StG S := h0.2.2.1
  have hL8 : S.length ≤ 8 := hok.1
  have hgp := hok.2.1
  have hO_x1 : kO D H x1 0 [.ref st, va_rf ((sl.map (fun a => a.1.1)).head?), .ref hi, .ref bu] := hO_x1
  have hOw : ∀ q, kOwn D st la ea F S.length q → q ∉ [x1, hi, es, bu, vb] ∧ (q < c0 ∨ c1 ≤ q) := h0.2.2.2
  have hev : Hd (es ≠ vb) := hev
  have io_x1 : ∀ x, c0 ≤ x → x < c1 → x ≠ x1 := fun x => out_of (hX5 x1 (by simp)).2
  have io_hi : ∀ x, c0 ≤ x → x < c1 → x ≠ hi := fun x => out_of (hX5 hi (by simp)).2
  have io_es : ∀ x, c0 ≤ x → x < c1 → x ≠ es := fun x => out_of (hX5 es (by simp)).2
  have io_bu : ∀ x, c0 ≤ x → x < c1 → x ≠ bu := fun x => out_of (hX5 bu (by simp)).2
  have io_vb : ∀ x, c0 ≤ x → x < c1 → x ≠ vb := fun x => out_of (hX5 vb (by simp)).2
  have b_x1 := (hX5 x1 (by simp)).1
  have b_hi := (hX5 hi (by simp)).1
  have b_es := (hX5 es (by simp)).1
  have b_bu := (hX5 bu (by simp)).1
  have b_vb := (hX5 vb (by simp)).1
  obtain ⟨⟨⟨n1, n2, n3, n4⟩, n5, n6, n7⟩, n8, n9, n10⟩ := hMd
  have n_mm_ra : Hd (mm ≠ ra) := n1
  have n_mm_sa : Hd (mm ≠ sa) := n2
  have n_mm_ka : Hd (mm ≠ ka) := n3
  have n_mm_ta : Hd (mm ≠ ta) := n4
  have n_ra_sa : Hd (ra ≠ sa) := n5
  have n_ra_ka : Hd (ra ≠ ka) := n6
  have n_ra_ta : Hd (ra ≠ ta) := n7
  have n_sa_ka : Hd (sa ≠ ka) := n8
  have n_sa_ta : Hd (sa ≠ ta) := n9
  have n_ka_ta : Hd (ka ≠ ta) := n10
  have hMd : Hd (((mm ≠ ra ∧ mm ≠ sa ∧ mm ≠ ka ∧ mm ≠ ta) ∧ ra ≠ sa ∧ ra ≠ ka ∧ ra ≠ ta) ∧ sa ≠ ka ∧ sa ≠ ta ∧ ka ≠ ta) := ⟨⟨⟨n1, n2, n3, n4⟩, n5, n6, n7⟩, n8, n9, n10⟩
  clear n1 n2 n3 n4 n5 n6 n7 n8 n9 n10
  obtain ⟨b_mm, b_ra, b_sa, b_ka, b_ta⟩ := id hMb
  obtain ⟨i_mm, i_ra, i_sa, i_ka, i_ta⟩ := id hMi
  have b_out : kBase D ≤ out := by omega
  have hcc : c0 ≤ c1 := by omega
  have w_mm : mm < c1 := by omega
  have n_mm_out : Hd (mm ≠ out) := Nat.ne_of_lt i_mm.2
  have n_mm_outD : Hd (mm ≠ outD) := Nat.ne_of_lt (Nat.lt_trans i_mm.2 hod)
  have w_ra : ra < c1 := by omega
  have n_ra_out : Hd (ra ≠ out) := Nat.ne_of_lt i_ra.2
  have n_ra_outD : Hd (ra ≠ outD) := Nat.ne_of_lt (Nat.lt_trans i_ra.2 hod)
  have w_sa : sa < c1 := by omega
  have n_sa_out : Hd (sa ≠ out) := Nat.ne_of_lt i_sa.2
  have n_sa_outD : Hd (sa ≠ outD) := Nat.ne_of_lt (Nat.lt_trans i_sa.2 hod)
  have w_ka : ka < c1 := by omega
  have n_ka_out : Hd (ka ≠ out) := Nat.ne_of_lt i_ka.2
  have n_ka_outD : Hd (ka ≠ outD) := Nat.ne_of_lt (Nat.lt_trans i_ka.2 hod)
  have w_ta : ta < c1 := by omega
  have n_ta_out : Hd (ta ≠ out) := Nat.ne_of_lt i_ta.2
  have n_ta_outD : Hd (ta ≠ outD) := Nat.ne_of_lt (Nat.lt_trans i_ta.2 hod)
  have ge_mm : ∀ q, q = mm → kNW s.heap q := fun q h => by rw [h]; show s.heap.size ≤ mm; omega
  have ge_ra : ∀ q, q = ra → kNW s.heap q := fun q h => by rw [h]; show s.heap.size ≤ ra; omega
  have ge_sa : ∀ q, q = sa → kNW s.heap q := fun q h => by rw [h]; show s.heap.size ≤ sa; omega
  have ge_ka : ∀ q, q = ka → kNW s.heap q := fun q h => by rw [h]; show s.heap.size ≤ ka; omega
  have ge_ta : ∀ q, q = ta → kNW s.heap q := fun q h => by rw [h]; show s.heap.size ≤ ta; omega
  have ge_out : ∀ q, q = out → kNW s.heap q := fun q h => by rw [h]; show s.heap.size ≤ out; omega
  have n_out_outD : Hd (out ≠ outD) := Nat.ne_of_lt hod
  have w_out : out < c1 := by omega
  have w_outD : outD < c1 := hdc
  have i_outD : c0 ≤ outD := by omega
  have htyo : kTy D H out := Or.inr ⟨2, _, by decide, hA_out⟩
  have htyd : kTy D H outD := Or.inr ⟨3, _, by decide, hA_outD⟩
  have to_out : ∀ x, x = out → H.size ≤ x ∨ (kTy D H x ∧ c0 ≤ x ∧ x < c1) := fun x h => by rw [h]; exact Or.inr ⟨htyo, hco, w_out⟩
  have to_outD : ∀ x, x = outD → H.size ≤ x ∨ (kTy D H x ∧ c0 ≤ x ∧ x < c1) := fun x h => by rw [h]; exact Or.inr ⟨htyd, i_outD, w_outD⟩
  obtain ⟨⟨hO_st, mc9, hO_la⟩, hLs9, hLn9, hF9, hDs9, hb1, hb2, hb3⟩ := id hP_kState_st
  have hnx : ∀ q, kOwn D st la ea F S.length q → q ≠ hi ∧ q ≠ es ∧ q ≠ x1 := fun q hq => by
    have h9 := (hOw q hq).1
    simp only [List.mem_cons, List.not_mem_nil, or_false, not_or] at h9
    exact ⟨h9.2.1, h9.2.2.1, h9.1⟩
  have hnO9 : ∀ q, kOwn D st la ea F S.length q → q ≠ out := fun q hq => (out_of (hOw q hq).2 hco w_out).symm
  have nex : Hd (x1 ≠ hi ∧ x1 ≠ es) := by
    obtain ⟨_, _, _, y1, y2, _⟩ := hDq
    exact ⟨(kO_ne hd9 y1 hO_x1 (by decide) (by decide) (by decide)).symm, kOA_ne hd9 hO_x1 y2 (by decide) (by decide)⟩
  have neo : Hd (hi ≠ out ∧ es ≠ out ∧ x1 ≠ out) := ⟨(io_hi out hco w_out).symm, (io_es out hco w_out).symm, (io_x1 out hco w_out).symm⟩
  refine lv_aload_n hx hb dL_law_2436 rfl (lv_at hl 1 rfl) ?_
  refine kx_ci (va_runV (As := []) (rest := []) ⟨hx, hb, hml, hown, hts⟩ (m_X1_takeSnapshot l D H x1 ((sl.map (fun a => a.1.1)).head?) hi bu st la ea F S gap hO_x1 hP_kState_st (by first | assumption | omega) (fun q hq => (hnx q hq).2.2) (by first | assumption | omega)) (cwV 0 hts (lw_V q1801 q1802 q1803 q79 q1804) rfl rfl rfl (by decide +kernel) ⟨Nat.le_of_ble_eq_true rfl, Nat.le_of_ble_eq_true rfl⟩) (kx_pv hK hS hB (kx_rc hK hO_x1 (C := RX1) (T := TX1) (N := 4) rfl)) rfl rfl hl.1 rfl (lv_room (Nat.le_of_ble_eq_true rfl)) dL_law_2437 ⟨by first | (dsimp only [lwR]; omega) | omega | exact Nat.le_of_ble_eq_true rfl, by first | (dsimp only [lwR]; omega) | omega | exact Nat.le_of_ble_eq_true rfl⟩) hS (fun q _ h => (fun h => Or.elim h (fun h => by rw [h]; show s.heap.size ≤ x1; omega) (fun h => Nat.le_trans hS.1 h)) h) (fun q h => (fun h => Or.elim h (fun h => by rw [h]; show s.heap.size ≤ x1; omega) (fun h => Nat.le_trans hS.1 h)) h) (fun z_6 H_4 locs_1 hz_3 hF_5 hS_2 => ?_)
  have hzf_7 := hF_5.1
  obtain ⟨crw, la2w, ea2w, F2w, hv_12, ho_13, ho_14, ho_15, hw1⟩ := hz_3
  subst z_6
  have hW9 : kW D H_4 c0 c1 x1 (S, gap) (some (S, gap)) (hl2.map Prod.snd) t := kW.snap (out := out) hd9 hxE hO_x1 hDq hTx hX5 hev hAl hDj hPw hF_5 htyo ⟨hco, w_out⟩ hc1 ho_13 ho_15 hw1
  refine lv_aload_n hx hb dL_law_2440 rfl (lv_at hl 2 rfl) ?_
  have h_16 := hO_mm.fr hF_5 (fun h => Or.elim h (io_x1 _ i_mm.1 w_mm) (fun h => Nat.not_le_of_gt hO_mm.lt h))
  have h_17 := hA_ra.fr hF_5 (fun h => Or.elim h (io_x1 _ i_ra.1 w_ra) (fun h => Nat.not_le_of_gt hA_ra.lt h))
  have h_18 := hA_sa.fr hF_5 (fun h => Or.elim h (io_x1 _ i_sa.1 w_sa) (fun h => Nat.not_le_of_gt hA_sa.lt h))
  have h_19 := hA_ka.fr hF_5 (fun h => Or.elim h (io_x1 _ i_ka.1 w_ka) (fun h => Nat.not_le_of_gt hA_ka.lt h))
  have h_20 := hA_ta.fr hF_5 (fun h => Or.elim h (io_x1 _ i_ta.1 w_ta) (fun h => Nat.not_le_of_gt hA_ta.lt h))
  have ty_mm : ∀ x, x = mm → H_4.size ≤ x ∨ (kTy D H_4 x ∧ c0 ≤ x ∧ x < c1) := fun x h => by rw [h]; exact Or.inr ⟨Or.inl ⟨2, _, by decide, by decide, by decide, h_16⟩, i_mm.1, w_mm⟩
  have ty_ka : ∀ x, x = ka → H_4.size ≤ x ∨ (kTy D H_4 x ∧ c0 ≤ x ∧ x < c1) := fun x h => by rw [h]; exact Or.inr ⟨Or.inr ⟨0, _, by decide, h_19⟩, i_ka.1, w_ka⟩
  refine kx_ci (va_runV (As := []) (rest := [.int (kI ((S.length : Nat) : Int))]) ⟨hx, hb, hml, hown, hts⟩ (m_X3_takeSnapshot l D H_4 mm ra sa ka ta nh ik t.length th sp9 iw le9 fi9 se9 g gk S gap h_16 h_17 h_19 (by first | assumption | omega) (by first | assumption | omega) n_mm_ra n_mm_ka n_ra_ka b_mm b_ka) (cwV 0 hts (lw_V q2637 q2638 q2639 q89 q2640) rfl rfl rfl (by decide +kernel) ⟨Nat.le_of_ble_eq_true rfl, Nat.le_of_ble_eq_true rfl⟩) (kx_pv hK hS_2 hB (kx_rc hK h_16 (C := RX3) (T := TX3) (N := 13) rfl)) rfl rfl hl.1 rfl (lv_room (Nat.le_of_ble_eq_true rfl)) dL_law_2441 ⟨by first | (dsimp only [lwR]; omega) | omega | exact Nat.le_of_ble_eq_true rfl, by first | (dsimp only [lwR]; omega) | omega | exact Nat.le_of_ble_eq_true rfl⟩) hS_2 (fun q _ h => (fun h => Or.elim h (ge_mm q) (ge_ka q)) h) (fun q h => (fun h => Or.elim h (ge_mm q) (ge_ka q)) h) (fun z_26 H_24 locs_21 hz_23 hF_25 hS_22 => ?_)
  have hzf_27 := hF_25.1
  obtain ⟨gk2_28, hv_29, ho_30, ho_31, ho_32, hM29⟩ := hz_23
  subst z_26
  refine kx_icmp_eq (x := ((S.length : Nat) : Int)) (y := ((S.length : Nat) : Int)) (tgt := 2493) hx hb dL_law_2444 (by decide) (by omega) (by omega) (by omega) (by omega) (fun cd9 => ?_) (fun cd9 => ?_)
  · -- taken at 2444
    have h_33 := h_18.fr hF_25 (fun h => Or.elim h (n_mm_sa.sm) (n_sa_ka))
    have h_34 := h_20.fr hF_25 (fun h => Or.elim h (n_mm_ta.sm) (n_ka_ta.sm))
    have h_35 := hA_out.fr hF_5 (fun h => Or.elim h (io_x1 _ hco w_out) (fun h => Nat.not_le_of_gt hA_out.lt h))
    have h_36 := h_35.fr hF_25 (fun h => Or.elim h (n_mm_out.sm) (n_ka_out.sm))
    have h_37 := hA_outD.fr hF_5 (fun h => Or.elim h (io_x1 _ i_outD w_outD) (fun h => Nat.not_le_of_gt hA_outD.lt h))
    have h_38 := h_37.fr hF_25 (fun h => Or.elim h (n_mm_outD.sm) (n_ka_outD.sm))
    have h_39 := hW9.fr hd9 hF_25 (fun x => (fun h => Or.elim h (ty_mm x) (ty_ka x)))
    refine W.widen (k := cells + 50000) (n := slots + 228000) (by omega) (by omega) ?_
    have hM9 : kM D H_24 c0 out mm (S, gap) (some (S, gap)) (hl2.map Prod.snd) t := ⟨ra, sa, ka, ta, _, _, _, _, _, _, _, _, _, _, _, _, ho_30, ho_31, h_33, ho_32, h_34, hMr, hMh, ⟨fun τ h => by injection h with h; subst h; exact ⟨rfl, hM29⟩, fun h => by cases h⟩, hMt, ht60, hMd, hMb, hMi⟩
    exact kk (S, gap) (some (S, gap)) (hl2.map Prod.snd) t _ _ _ ⟨hS_22, lv_sub hl [0, 1, 2, 3, 4, 5] rfl, h_39, hM9, ⟨_, h_36⟩, ⟨_, h_38⟩, by omega, by omega⟩
  · -- not taken at 2444
    exfalso; omega

set_option maxHeartbeats 8000000 in
set_option maxRecDepth 100000 in
theorem lc_restoreSnapshot {p : Program} {e : Env} {s : State} {m : MethodId} {below : List Frame} {meth : Method} {c : Code} {l : Launch} {D : kG} {b L c0 c1 x1 mm out outD : Nat} {xs : Nat → Int32} {Q : State → Prop} (C0 : lwC D p l s m meth c b L c0 c1 out outD xs) {j : Nat} (hj : 3 * j + 3 ≤ L) {S : Ls} {gap : Int} {sn : Option Sg} {hs : List Sg} {t : List Int} {H : Heap} {locs : List Loc} {ls : Array Slot} (I0 : lwI D s b c0 c1 x1 mm out outD j j (S, gap) sn hs t H locs ls) {cells slots : Nat} (hcl : cells + 50000 ≤ 1200144) (hsl9 : slots + 228000 ≤ 5496058) (kk : ∀ (σ : Sg) (sn : Option Sg) (hs : List Sg) (t : List Int) (H : Heap) (locs : List Loc) (ls : Array Slot), lwI D s b c0 c1 x1 mm out outD j (j + 1) σ sn hs t H locs ls → W p l e lwR s m #[Value.ref b] below meth c H locs (cells + 50000) (slots + 228000) Q (F0 m 2493 ls [])) : W p l e lwR s m #[Value.ref b] below meth c H locs cells slots Q (F0 m 2449 ls []) := by
  obtain ⟨hx, hb, hml, hown, hts, hlk, hK, hl9, hX, hbl, hbs, hL72, hc0, hco, hod, hdc⟩ := C0
  obtain ⟨hS, hl, hW, hM, ⟨go, hA_out⟩, ⟨gd, hA_outD⟩, hc1, htl⟩ := I0
  have hB : ∀ q, (kNW s.heap) q → kBase D ≤ q := fun q h => Nat.le_trans hK.size h
  have hbA : ¬ (kNW s.heap) b := fun h => by have h9 : s.heap.size ≤ b := h; omega
  have hd9 := hK.dis
  have hxE : ¬ kBase D ≤ D.2.2.2 2 := hK.tE.out
  obtain ⟨z1, hz1⟩ : ∃ z, z = (xs (3 * j + 1)).toInt := ⟨_, rfl⟩
  obtain ⟨z2, hz2⟩ : ∃ z, z = (xs (3 * j + 2)).toInt := ⟨_, rfl⟩
  have hr1 : -2147483648 ≤ z1 ∧ z1 ≤ 2147483647 := by rw [hz1]; exact i32r _
  have hr2 : -2147483648 ≤ z2 ∧ z2 ≤ 2147483647 := by rw [hz2]; exact i32r _
  obtain ⟨⟨st, la, ea, F⟩, sl, hl2, hi, es, bu, vb, hO_x1, hDq, hTx, hX5, hev, hAl, hDj, hPw, hsl, hsn, hhs⟩ := id hW
  subst hsn
  subst hhs
  obtain ⟨ra, sa, ka, ta, nh, ik, th, sp9, iw, le9, fi9, se9, g, gs, gk, gt, hO_mm, hA_ra, hA_sa, hA_ka, hA_ta, hMr, hMh, hMk, hMt, ht60, hMd, hMb, hMi⟩ := id hM
  have hMr : MRow g S gap := hMr
  have h0 := hAl _ List.mem_cons_self
  have hP_kState_st : kState D H st la ea gap S F := h0.1
  have hok : LsOK S gap := h0.2.1
  have hG : StG S := h0.2.2.1
  have hL8 : S.length ≤ 8 := hok.1
  have hgp := hok.2.1
  have hO_x1 : kO D H x1 0 [.ref st, va_rf ((sl.map (fun a => a.1.1)).head?), .ref hi, .ref bu] := hO_x1
  have hOw : ∀ q, kOwn D st la ea F S.length q → q ∉ [x1, hi, es, bu, vb] ∧ (q < c0 ∨ c1 ≤ q) := h0.2.2.2
  have hev : Hd (es ≠ vb) := hev
  have io_x1 : ∀ x, c0 ≤ x → x < c1 → x ≠ x1 := fun x => out_of (hX5 x1 (by simp)).2
  have io_hi : ∀ x, c0 ≤ x → x < c1 → x ≠ hi := fun x => out_of (hX5 hi (by simp)).2
  have io_es : ∀ x, c0 ≤ x → x < c1 → x ≠ es := fun x => out_of (hX5 es (by simp)).2
  have io_bu : ∀ x, c0 ≤ x → x < c1 → x ≠ bu := fun x => out_of (hX5 bu (by simp)).2
  have io_vb : ∀ x, c0 ≤ x → x < c1 → x ≠ vb := fun x => out_of (hX5 vb (by simp)).2
  have b_x1 := (hX5 x1 (by simp)).1
  have b_hi := (hX5 hi (by simp)).1
  have b_es := (hX5 es (by simp)).1
  have b_bu := (hX5 bu (by simp)).1
  have b_vb := (hX5 vb (by simp)).1
  obtain ⟨⟨⟨n1, n2, n3, n4⟩, n5, n6, n7⟩, n8, n9, n10⟩ := hMd
  have n_mm_ra : Hd (mm ≠ ra) := n1
  have n_mm_sa : Hd (mm ≠ sa) := n2
  have n_mm_ka : Hd (mm ≠ ka) := n3
  have n_mm_ta : Hd (mm ≠ ta) := n4
  have n_ra_sa : Hd (ra ≠ sa) := n5
  have n_ra_ka : Hd (ra ≠ ka) := n6
  have n_ra_ta : Hd (ra ≠ ta) := n7
  have n_sa_ka : Hd (sa ≠ ka) := n8
  have n_sa_ta : Hd (sa ≠ ta) := n9
  have n_ka_ta : Hd (ka ≠ ta) := n10
  have hMd : Hd (((mm ≠ ra ∧ mm ≠ sa ∧ mm ≠ ka ∧ mm ≠ ta) ∧ ra ≠ sa ∧ ra ≠ ka ∧ ra ≠ ta) ∧ sa ≠ ka ∧ sa ≠ ta ∧ ka ≠ ta) := ⟨⟨⟨n1, n2, n3, n4⟩, n5, n6, n7⟩, n8, n9, n10⟩
  clear n1 n2 n3 n4 n5 n6 n7 n8 n9 n10
  obtain ⟨b_mm, b_ra, b_sa, b_ka, b_ta⟩ := id hMb
  obtain ⟨i_mm, i_ra, i_sa, i_ka, i_ta⟩ := id hMi
  have b_out : kBase D ≤ out := by omega
  have hcc : c0 ≤ c1 := by omega
  have w_mm : mm < c1 := by omega
  have n_mm_out : Hd (mm ≠ out) := Nat.ne_of_lt i_mm.2
  have n_mm_outD : Hd (mm ≠ outD) := Nat.ne_of_lt (Nat.lt_trans i_mm.2 hod)
  have w_ra : ra < c1 := by omega
  have n_ra_out : Hd (ra ≠ out) := Nat.ne_of_lt i_ra.2
  have n_ra_outD : Hd (ra ≠ outD) := Nat.ne_of_lt (Nat.lt_trans i_ra.2 hod)
  have w_sa : sa < c1 := by omega
  have n_sa_out : Hd (sa ≠ out) := Nat.ne_of_lt i_sa.2
  have n_sa_outD : Hd (sa ≠ outD) := Nat.ne_of_lt (Nat.lt_trans i_sa.2 hod)
  have w_ka : ka < c1 := by omega
  have n_ka_out : Hd (ka ≠ out) := Nat.ne_of_lt i_ka.2
  have n_ka_outD : Hd (ka ≠ outD) := Nat.ne_of_lt (Nat.lt_trans i_ka.2 hod)
  have w_ta : ta < c1 := by omega
  have n_ta_out : Hd (ta ≠ out) := Nat.ne_of_lt i_ta.2
  have n_ta_outD : Hd (ta ≠ outD) := Nat.ne_of_lt (Nat.lt_trans i_ta.2 hod)
  have ge_mm : ∀ q, q = mm → kNW s.heap q := fun q h => by rw [h]; show s.heap.size ≤ mm; omega
  have ge_ra : ∀ q, q = ra → kNW s.heap q := fun q h => by rw [h]; show s.heap.size ≤ ra; omega
  have ge_sa : ∀ q, q = sa → kNW s.heap q := fun q h => by rw [h]; show s.heap.size ≤ sa; omega
  have ge_ka : ∀ q, q = ka → kNW s.heap q := fun q h => by rw [h]; show s.heap.size ≤ ka; omega
  have ge_ta : ∀ q, q = ta → kNW s.heap q := fun q h => by rw [h]; show s.heap.size ≤ ta; omega
  have ge_out : ∀ q, q = out → kNW s.heap q := fun q h => by rw [h]; show s.heap.size ≤ out; omega
  have n_out_outD : Hd (out ≠ outD) := Nat.ne_of_lt hod
  have w_out : out < c1 := by omega
  have w_outD : outD < c1 := hdc
  have i_outD : c0 ≤ outD := by omega
  have htyo : kTy D H out := Or.inr ⟨2, _, by decide, hA_out⟩
  have htyd : kTy D H outD := Or.inr ⟨3, _, by decide, hA_outD⟩
  have to_out : ∀ x, x = out → H.size ≤ x ∨ (kTy D H x ∧ c0 ≤ x ∧ x < c1) := fun x h => by rw [h]; exact Or.inr ⟨htyo, hco, w_out⟩
  have to_outD : ∀ x, x = outD → H.size ≤ x ∨ (kTy D H x ∧ c0 ≤ x ∧ x < c1) := fun x h => by rw [h]; exact Or.inr ⟨htyd, i_outD, w_outD⟩
  obtain ⟨⟨hO_st, mc9, hO_la⟩, hLs9, hLn9, hF9, hDs9, hb1, hb2, hb3⟩ := id hP_kState_st
  have hnx : ∀ q, kOwn D st la ea F S.length q → q ≠ hi ∧ q ≠ es ∧ q ≠ x1 := fun q hq => by
    have h9 := (hOw q hq).1
    simp only [List.mem_cons, List.not_mem_nil, or_false, not_or] at h9
    exact ⟨h9.2.1, h9.2.2.1, h9.1⟩
  have hnO9 : ∀ q, kOwn D st la ea F S.length q → q ≠ out := fun q hq => (out_of (hOw q hq).2 hco w_out).symm
  have nex : Hd (x1 ≠ hi ∧ x1 ≠ es) := by
    obtain ⟨_, _, _, y1, y2, _⟩ := hDq
    exact ⟨(kO_ne hd9 y1 hO_x1 (by decide) (by decide) (by decide)).symm, kOA_ne hd9 hO_x1 y2 (by decide) (by decide)⟩
  have neo : Hd (hi ≠ out ∧ es ≠ out ∧ x1 ≠ out) := ⟨(io_hi out hco w_out).symm, (io_es out hco w_out).symm, (io_x1 out hco w_out).symm⟩
  rcases l_one sl hsl with hsl2 | ⟨⟨⟨sp, las, eas, Fs⟩, ⟨Ss, gaps⟩⟩, hsl2⟩
  · -- case
    have hO_x1 : kO D H x1 0 [.ref st, .null, .ref hi, .ref bu] := by
      have h9 := hO_x1
      rw [hsl2] at h9
      exact h9
    have hik : ik = false := hMk.2 (by rw [hsl2]; rfl)
    subst hik
    refine lv_aload_n hx hb dL_law_2449 rfl (lv_at hl 1 rfl) ?_
    refine lv_aload_n hx hb dL_law_2450 rfl (lv_at hl 3 rfl) ?_
    refine kx_ci (vx_runSW (As := [.ref x1, .ref out]) (rest := []) ⟨hx, hb, hml, hown, hts⟩ (wx_restoreSnapshot l hl9 D H x1 none hi bu st la mc9 ea F S gap out hO_x1 hO_st hO_la hLs9 hLn9 (by first | assumption | omega)) (vx_cwSW 2 hts (lw_SW q2225 q2226 q78 q2227) rfl rfl rfl (by decide +kernel) ⟨Nat.le_of_ble_eq_true rfl, Nat.le_of_ble_eq_true rfl⟩) (kx_ps hK hS hB) rfl rfl hl.1 rfl (lv_room (Nat.le_of_ble_eq_true rfl)) dL_law_2451 ⟨by first | (dsimp only [lwR]; omega) | omega | exact Nat.le_of_ble_eq_true rfl, by first | (dsimp only [lwR]; omega) | omega | exact Nat.le_of_ble_eq_true rfl⟩) hS (fun q _ h => by have h9 := hS.1; (try dsimp only at h); (try dsimp only); (try simp only [kNW] at h); (try simp only [kNW]); omega) (fun q h => by have h9 := hS.1; (try dsimp only at h); (try dsimp only); (try simp only [kNW] at h); (try simp only [kNW]); omega) (fun z_6 H_4 locs_1 hz_3 hF_5 hS_2 => ?_)
    have hzf_7 := hF_5.1
    have hF_5 := hF_5.nw
    obtain ⟨hv_8, hnw_9⟩ := hz_3
    subst z_6
    refine lv_istore (lv' := [(6, .int (kI (1))), (0, .ref b), (1, .ref x1), (2, .ref mm), (3, .ref out), (4, .ref outD), (5, .int (kI ((3 * j : Nat) : Int)))]) hx hb dL_law_2454 hl (by decide) rfl (fun ls hl => ?_)
    refine lv_aload_n hx hb dL_law_2456 rfl (lv_at hl 3 rfl) ?_
    have h_10 := hO_mm.ex hF_5
    have h_11 := hA_ra.ex hF_5
    have h_12 := hA_sa.ex hF_5
    have h_13 := hA_ka.ex hF_5
    have h_14 := hA_ta.ex hF_5
    have ty_mm : ∀ x, x = mm → H_4.size ≤ x ∨ (kTy D H_4 x ∧ c0 ≤ x ∧ x < c1) := fun x h => by rw [h]; exact Or.inr ⟨Or.inl ⟨2, _, by decide, by decide, by decide, h_10⟩, i_mm.1, w_mm⟩
    refine kx_ci (va_runV (As := []) (rest := []) ⟨hx, hb, hml, hown, hts⟩ (m_X3_restoreSnapshot_no l D H_4 mm ra sa ka ta nh t.length th sp9 iw le9 fi9 se9 h_10 b_mm) (cwV 0 hts (lw_V q2641 q2642 q2643 q89 q2644) rfl rfl rfl (by decide +kernel) ⟨Nat.le_of_ble_eq_true rfl, Nat.le_of_ble_eq_true rfl⟩) (kx_pv hK hS_2 hB (kx_rc hK h_10 (C := RX3) (T := TX3) (N := 13) rfl)) rfl rfl hl.1 rfl (lv_room (Nat.le_of_ble_eq_true rfl)) dL_law_2457 ⟨by first | (dsimp only [lwR]; omega) | omega | exact Nat.le_of_ble_eq_true rfl, by first | (dsimp only [lwR]; omega) | omega | exact Nat.le_of_ble_eq_true rfl⟩) hS_2 (fun q _ h => (ge_mm q) h) (fun q h => (ge_mm q) h) (fun z_20 H_18 locs_15 hz_17 hF_19 hS_16 => ?_)
    have hzf_21 := hF_19.1
    obtain ⟨hv_22, ho_23⟩ := hz_17
    subst z_20
    refine lv_istore (lv' := [(7, .int (kI (0))), (6, .int (kI (1))), (0, .ref b), (1, .ref x1), (2, .ref mm), (3, .ref out), (4, .ref outD), (5, .int (kI ((3 * j : Nat) : Int)))]) hx hb dL_law_2460 hl (by decide) rfl (fun ls hl => ?_)
    refine lv_aload_n hx hb dL_law_2462 rfl (lv_at hl 4 rfl) ?_
    refine kx_ci0 (va_runV (As := []) (rest := []) ⟨hx, hb, hml, hown, hts⟩ (m_X3_thrown l D H_18 mm ra sa ka ta nh false t.length 1 sp9 iw le9 fi9 se9 ho_23 ) (cwV 0 hts (lw_V q2278 q2279 q2280 q89 q2281) rfl rfl rfl (by decide +kernel) ⟨Nat.le_of_ble_eq_true rfl, Nat.le_of_ble_eq_true rfl⟩) (kx_pv hK hS_16 hB (kx_rc hK ho_23 (C := RX3) (T := TX3) (N := 13) rfl)) rfl rfl hl.1 rfl (lv_room (Nat.le_of_ble_eq_true rfl)) dL_law_2463 ⟨by first | (dsimp only [lwR]; omega) | omega | exact Nat.le_of_ble_eq_true rfl, by first | (dsimp only [lwR]; omega) | omega | exact Nat.le_of_ble_eq_true rfl⟩) hS_16 (fun z_27 locs_24 hz_26 hS_25 => ?_)
    subst z_27
    refine lv_iload hx hb dL_law_2466 (lv_at hl 1 rfl) ?_
    refine kx_icmp_eq (x := 1) (y := 1) (tgt := 2473) hx hb dL_law_2468 (by decide) (by omega) (by omega) (by omega) (by omega) (fun c_2468_28 => ?_) (fun c_2468_28 => ?_)
    · -- taken at 2468
      refine lv_iload hx hb dL_law_2473 (lv_at hl 1 rfl) ?_
      refine kx_if_ne (x := 1) (tgt := 2490) hx hb dL_law_2475 (by decide) (by omega) (by omega) (fun c_2475_29 => ?_) (fun c_2475_29 => ?_)
      · -- taken at 2475
        refine lv_goto (tgt := 2493) hx hb dL_law_2490 (by decide) ?_
        have h_30 := h_11.fr hF_19 (n_mm_ra.sm)
        have h_31 := h_12.fr hF_19 (n_mm_sa.sm)
        have h_32 := h_13.fr hF_19 (n_mm_ka.sm)
        have h_33 := h_14.fr hF_19 (n_mm_ta.sm)
        have h_34 := hA_out.ex hF_5
        have h_35 := h_34.fr hF_19 (n_mm_out.sm)
        have h_36 := hA_outD.ex hF_5
        have h_37 := h_36.fr hF_19 (n_mm_outD.sm)
        have h_38 := hW.ex hd9 hF_5
        have h_39 := h_38.fr hd9 hF_19 (fun x => (ty_mm x))
        refine W.widen (k := cells + 50000) (n := slots + 228000) (by omega) (by omega) ?_
        have hM9 : kM D H_18 c0 out mm (S, gap) ((sl.map Prod.snd).head?) (hl2.map Prod.snd) t := ⟨ra, sa, ka, ta, _, _, _, _, _, _, _, _, _, _, _, _, ho_23, h_30, h_31, h_32, h_33, hMr, hMh, hMk, hMt, ht60, hMd, hMb, hMi⟩
        exact kk (S, gap) ((sl.map Prod.snd).head?) (hl2.map Prod.snd) t _ _ _ ⟨hS_25, lv_sub hl [2, 3, 4, 5, 6, 7] rfl, h_39, hM9, ⟨_, h_35⟩, ⟨_, h_37⟩, by omega, by omega⟩
      · -- not taken at 2475
        exfalso; omega
    · -- not taken at 2468
      exfalso; omega
  · -- case
    have hO_x1 : kO D H x1 0 [.ref st, .ref sp, .ref hi, .ref bu] := by
      have h9 := hO_x1
      rw [hsl2] at h9
      exact h9
    obtain ⟨hik, hMk9⟩ := hMk.1 (Ss, gaps) (by rw [hsl2]; rfl)
    subst hik
    have hAl2 := hAl
    rw [hsl2] at hAl2
    have hPw2 := hPw
    rw [hsl2] at hPw2
    have hGs : kGd D H c0 c1 [x1, hi, es, bu, vb] ((sp, las, eas, Fs), (Ss, gaps)) := hAl2 _ (by simp)
    have hP_kState_sp : kState D H sp las eas gaps Ss Fs := hGs.1
    have hoks : LsOK Ss gaps := hGs.2.1
    have hOs : ∀ q, kOwn D sp las eas Fs Ss.length q → q ∉ [x1, hi, es, bu, vb] ∧ (q < c0 ∨ c1 ≤ q) := hGs.2.2.2
    have hnsp : ∀ q, kOwn D sp las eas Fs Ss.length q → q ≠ hi ∧ q ≠ es ∧ q ≠ x1 := fun q hq => by
      have h9 := (hOs q hq).1
      simp only [List.mem_cons, List.not_mem_nil, or_false, not_or] at h9
      exact ⟨h9.2.1, h9.2.2.1, h9.1⟩
    have hnso : ∀ q, kOwn D sp las eas Fs Ss.length q → q ≠ out := fun q hq => (out_of (hOs q hq).2 hco w_out).symm
    have hs8 := hoks.1
    have hrv : -2147483648 ≤ ((Ss.length : Nat) : Int) ∧ ((Ss.length : Nat) : Int) ≤ 2147483647 := ⟨by omega, by omega⟩
    refine lv_aload_n hx hb dL_law_2449 rfl (lv_at hl 1 rfl) ?_
    refine lv_aload_n hx hb dL_law_2450 rfl (lv_at hl 3 rfl) ?_
    refine kx_ci (vx_runSW (As := [.ref x1, .ref out]) (rest := []) ⟨hx, hb, hml, hown, hts⟩ (wr_restoreSnapshot l hl9 D H x1 hi bu es ((hl2.map (fun a => a.1.1))) st la ea F S gap sp las eas gaps Ss Fs out go hO_x1 hP_kState_st hDq hP_kState_sp hA_out (by first | assumption | omega) (by first | assumption | omega) (by first | assumption | omega) (by first | assumption | omega) nex (by first | assumption | omega) (by first | assumption | omega) (by first | assumption | omega) (by first | assumption | omega) neo (by first | assumption | omega) (by first | assumption | omega)) (vx_cwSW 2 hts (lw_SW q2225 q2226 q78 q2227) rfl rfl rfl (by decide +kernel) ⟨Nat.le_of_ble_eq_true rfl, Nat.le_of_ble_eq_true rfl⟩) (kx_ps hK hS hB) rfl rfl hl.1 rfl (lv_room (Nat.le_of_ble_eq_true rfl)) dL_law_2451 ⟨by first | (dsimp only [lwR]; omega) | omega | exact Nat.le_of_ble_eq_true rfl, by first | (dsimp only [lwR]; omega) | omega | exact Nat.le_of_ble_eq_true rfl⟩) hS (fun q _ h => (fun h => Or.elim h (ge_out q) (fun h => Or.elim h (fun h => by rw [h]; show s.heap.size ≤ x1; omega) (fun h => Or.elim h (fun h => by rw [h]; show s.heap.size ≤ hi; omega) (fun h => Or.elim h (fun h => by rw [h]; show s.heap.size ≤ es; omega) (fun h => Nat.le_trans hS.1 h))))) h) (fun q h => (fun h => Or.elim h (ge_out q) (fun h => Or.elim h (fun h => by rw [h]; show s.heap.size ≤ x1; omega) (fun h => Or.elim h (fun h => by rw [h]; show s.heap.size ≤ hi; omega) (fun h => Or.elim h (fun h => by rw [h]; show s.heap.size ≤ es; omega) (fun h => Nat.le_trans hS.1 h))))) h) (fun z_45 H_43 locs_40 hz_42 hF_44 hS_41 => ?_)
    have hzf_46 := hF_44.1
    obtain ⟨crw, la2w, ea2w, F2w, cr2w, la3w, ea3w, F3w, hv_55, ho_56, ho_57, ho_58, ho_59, ho_60, ho_61, hw1, hw2, hw3⟩ := hz_42
    subst z_45
    have hW9 : kW D H_43 c0 c1 x1 (Ss, gaps) (some (Ss, gaps)) (pushH (hl2.map Prod.snd) (S, gap)) t := kW.restore (out := out) hd9 hxE ⟨_, hO_x1⟩ hDq hTx hX5 hev hAl2 hPw2 hF_44 htyo ⟨hco, w_out⟩ hc1 ho_56 ho_57 ho_58 ho_60 hw1 hw2 hw3
    refine lv_istore (lv' := [(6, .int (kI (0))), (0, .ref b), (1, .ref x1), (2, .ref mm), (3, .ref out), (4, .ref outD), (5, .int (kI ((3 * j : Nat) : Int)))]) hx hb dL_law_2454 hl (by decide) rfl (fun ls hl => ?_)
    refine lv_aload_n hx hb dL_law_2456 rfl (lv_at hl 3 rfl) ?_
    have h_62 := hO_mm.fr hF_44 (fun h => Or.elim h (n_mm_out) (fun h => Or.elim h (io_x1 _ i_mm.1 w_mm) (fun h => Or.elim h (io_hi _ i_mm.1 w_mm) (fun h => Or.elim h (io_es _ i_mm.1 w_mm) (fun h => Nat.not_le_of_gt hO_mm.lt h)))))
    have h_63 := hA_ra.fr hF_44 (fun h => Or.elim h (n_ra_out) (fun h => Or.elim h (io_x1 _ i_ra.1 w_ra) (fun h => Or.elim h (io_hi _ i_ra.1 w_ra) (fun h => Or.elim h (io_es _ i_ra.1 w_ra) (fun h => Nat.not_le_of_gt hA_ra.lt h)))))
    have h_64 := hA_sa.fr hF_44 (fun h => Or.elim h (n_sa_out) (fun h => Or.elim h (io_x1 _ i_sa.1 w_sa) (fun h => Or.elim h (io_hi _ i_sa.1 w_sa) (fun h => Or.elim h (io_es _ i_sa.1 w_sa) (fun h => Nat.not_le_of_gt hA_sa.lt h)))))
    have h_65 := hA_ka.fr hF_44 (fun h => Or.elim h (n_ka_out) (fun h => Or.elim h (io_x1 _ i_ka.1 w_ka) (fun h => Or.elim h (io_hi _ i_ka.1 w_ka) (fun h => Or.elim h (io_es _ i_ka.1 w_ka) (fun h => Nat.not_le_of_gt hA_ka.lt h)))))
    have h_66 := hA_ta.fr hF_44 (fun h => Or.elim h (n_ta_out) (fun h => Or.elim h (io_x1 _ i_ta.1 w_ta) (fun h => Or.elim h (io_hi _ i_ta.1 w_ta) (fun h => Or.elim h (io_es _ i_ta.1 w_ta) (fun h => Nat.not_le_of_gt hA_ta.lt h)))))
    have ty_mm : ∀ x, x = mm → H_43.size ≤ x ∨ (kTy D H_43 x ∧ c0 ≤ x ∧ x < c1) := fun x h => by rw [h]; exact Or.inr ⟨Or.inl ⟨2, _, by decide, by decide, by decide, h_62⟩, i_mm.1, w_mm⟩
    have ty_ra : ∀ x, x = ra → H_43.size ≤ x ∨ (kTy D H_43 x ∧ c0 ≤ x ∧ x < c1) := fun x h => by rw [h]; exact Or.inr ⟨Or.inr ⟨0, _, by decide, h_63⟩, i_ra.1, w_ra⟩
    have ty_sa : ∀ x, x = sa → H_43.size ≤ x ∨ (kTy D H_43 x ∧ c0 ≤ x ∧ x < c1) := fun x h => by rw [h]; exact Or.inr ⟨Or.inr ⟨0, _, by decide, h_64⟩, i_sa.1, w_sa⟩
    refine kx_ci (va_runV (As := []) (rest := []) ⟨hx, hb, hml, hown, hts⟩ (m_X3_restoreSnapshot l D H_43 mm ra sa ka ta nh t.length th sp9 iw le9 fi9 se9 g gs S gap ((hl2.map Prod.snd)) gk Ss gaps h_62 h_63 h_64 h_65 (by first | assumption | omega) (by first | assumption | omega) (by first | assumption | omega) n_mm_ra n_mm_sa n_ra_sa b_mm b_ra b_sa n_mm_ka n_ra_ka n_sa_ka (by first | assumption | omega) (by first | assumption | omega)) (cwV 0 hts (lw_V q2641 q2642 q2643 q89 q2644) rfl rfl rfl (by decide +kernel) ⟨Nat.le_of_ble_eq_true rfl, Nat.le_of_ble_eq_true rfl⟩) (kx_pv hK hS_41 hB (kx_rc hK h_62 (C := RX3) (T := TX3) (N := 13) rfl)) rfl rfl hl.1 rfl (lv_room (Nat.le_of_ble_eq_true rfl)) dL_law_2457 ⟨by first | (dsimp only [lwR]; omega) | omega | exact Nat.le_of_ble_eq_true rfl, by first | (dsimp only [lwR]; omega) | omega | exact Nat.le_of_ble_eq_true rfl⟩) hS_41 (fun q _ h => (fun h => Or.elim h (ge_mm q) (fun h => Or.elim h (ge_ra q) (ge_sa q))) h) (fun q h => (fun h => Or.elim h (ge_mm q) (fun h => Or.elim h (ge_ra q) (ge_sa q))) h) (fun z_72 H_70 locs_67 hz_69 hF_71 hS_68 => ?_)
    have hzf_73 := hF_71.1
    obtain ⟨g2_74, gs2_75, sn2_76, hv_77, ho_78, ho_79, ho_80, ho_81, hM29, hH29⟩ := hz_69
    subst z_72
    refine lv_istore (lv' := [(7, .int (kI ((Ss.length : Nat) : Int))), (6, .int (kI (0))), (0, .ref b), (1, .ref x1), (2, .ref mm), (3, .ref out), (4, .ref outD), (5, .int (kI ((3 * j : Nat) : Int)))]) hx hb dL_law_2460 hl (by decide) rfl (fun ls hl => ?_)
    refine lv_aload_n hx hb dL_law_2462 rfl (lv_at hl 4 rfl) ?_
    refine kx_ci0 (va_runV (As := []) (rest := []) ⟨hx, hb, hml, hown, hts⟩ (m_X3_thrown l D H_70 mm ra sa ka ta sn2_76 true t.length 0 sp9 iw le9 fi9 se9 ho_78 ) (cwV 0 hts (lw_V q2278 q2279 q2280 q89 q2281) rfl rfl rfl (by decide +kernel) ⟨Nat.le_of_ble_eq_true rfl, Nat.le_of_ble_eq_true rfl⟩) (kx_pv hK hS_68 hB (kx_rc hK ho_78 (C := RX3) (T := TX3) (N := 13) rfl)) rfl rfl hl.1 rfl (lv_room (Nat.le_of_ble_eq_true rfl)) dL_law_2463 ⟨by first | (dsimp only [lwR]; omega) | omega | exact Nat.le_of_ble_eq_true rfl, by first | (dsimp only [lwR]; omega) | omega | exact Nat.le_of_ble_eq_true rfl⟩) hS_68 (fun z_85 locs_82 hz_84 hS_83 => ?_)
    subst z_85
    refine lv_iload hx hb dL_law_2466 (lv_at hl 1 rfl) ?_
    refine kx_icmp_eq (x := 0) (y := 0) (tgt := 2473) hx hb dL_law_2468 (by decide) (by omega) (by omega) (by omega) (by omega) (fun c_2468_86 => ?_) (fun c_2468_86 => ?_)
    · -- taken at 2468
      refine lv_iload hx hb dL_law_2473 (lv_at hl 1 rfl) ?_
      refine kx_if_ne (x := 0) (tgt := 2490) hx hb dL_law_2475 (by decide) (by omega) (by omega) (fun c_2475_87 => ?_) (fun c_2475_87 => ?_)
      · -- taken at 2475
        exfalso; omega
      · -- not taken at 2475
        refine lv_aload_n hx hb dL_law_2478 rfl (lv_at hl 5 rfl) ?_
        refine kx_iconst hx hb dL_law_2479 ?_
        have h_88 := ho_61.fr hF_71 (fun h => Or.elim h (n_mm_out.sm) (fun h => Or.elim h (n_ra_out.sm) (n_sa_out.sm)))
        refine kx_lald (i := 0) hx hb hK h_88 0 rfl (by decide) (by decide) dL_law_2480 ?_
        refine lv_iload hx hb dL_law_2481 (lv_at hl 0 rfl) ?_
        refine kx_i2l hx hb (z := ((Ss.length : Nat) : Int)) (by omega) (by omega) dL_law_2483 ?_
        refine kx_lcmpE hx hb (x := ((kup go 0 (kL (((Ss.length : Nat) : Int))))) 0) (y := kL (((Ss.length : Nat) : Int))) (kup_self _ _ _) dL_law_2484 ?_
        refine kx_if_eq (x := 0) (tgt := 2490) hx hb dL_law_2485 (by decide) (by omega) (by omega) (fun c_2485_89 => ?_) (fun c_2485_89 => ?_)
        · -- taken at 2485
          refine lv_goto (tgt := 2493) hx hb dL_law_2490 (by decide) ?_
          have h_90 := h_66.fr hF_71 (fun h => Or.elim h (n_mm_ta.sm) (fun h => Or.elim h (n_ra_ta.sm) (n_sa_ta.sm)))
          have h_91 := hA_outD.fr hF_44 (fun h => Or.elim h (n_out_outD.sm) (fun h => Or.elim h (io_x1 _ i_outD w_outD) (fun h => Or.elim h (io_hi _ i_outD w_outD) (fun h => Or.elim h (io_es _ i_outD w_outD) (fun h => Nat.not_le_of_gt hA_outD.lt h)))))
          have h_92 := h_91.fr hF_71 (fun h => Or.elim h (n_mm_outD.sm) (fun h => Or.elim h (n_ra_outD.sm) (n_sa_outD.sm)))
          have h_93 := hW9.fr hd9 hF_71 (fun x => (fun h => Or.elim h (ty_mm x) (fun h => Or.elim h (ty_ra x) (ty_sa x))))
          refine W.widen (k := cells + 50000) (n := slots + 228000) (by omega) (by omega) ?_
          have hM9 : kM D H_70 c0 out mm (Ss, gaps) (some (Ss, gaps)) (pushH (hl2.map Prod.snd) (S, gap)) t := ⟨ra, sa, ka, ta, _, _, _, _, _, _, _, _, _, _, _, _, ho_78, ho_79, ho_80, ho_81, h_90, hM29, hH29, ⟨fun τ h => by injection h with h; subst h; exact ⟨rfl, hMk9⟩, fun h => by cases h⟩, hMt, ht60, hMd, hMb, hMi⟩
          exact kk (Ss, gaps) (some (Ss, gaps)) (pushH (hl2.map Prod.snd) (S, gap)) t _ _ _ ⟨hS_83, lv_sub hl [2, 3, 4, 5, 6, 7] rfl, h_93, hM9, ⟨_, h_88⟩, ⟨_, h_92⟩, by omega, by omega⟩
        · -- not taken at 2485
          exfalso; omega
    · -- not taken at 2468
      exfalso; omega

