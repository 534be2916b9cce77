set_option maxHeartbeats 8000000 in
set_option maxRecDepth 100000 in
theorem lc_begin {p : Program} {e : Env} {s : State} {m : MethodId} {below : List Frame} {meth : Method} {c : Code} {l : Launch} {D : kG} {b L c0 c1 x1 mm out outD : Nat} {xs : Nat → Int32} {Q : State → Prop} (C0 : lwC D p l s m meth c b L c0 c1 out outD xs) {j : Nat} (hj : 3 * j + 3 ≤ L) {S : Ls} {gap : Int} {sn : Option Sg} {hs : List Sg} {t : List Int} {H : Heap} {locs : List Loc} {ls : Array Slot} (I0 : lwI D s b c0 c1 x1 mm out outD j j (S, gap) sn hs t H locs ls) {cells slots : Nat} (hcl : cells + 50000 ≤ 1200144) (hsl9 : slots + 228000 ≤ 5496058) (kk : ∀ (σ : Sg) (sn : Option Sg) (hs : List Sg) (t : List Int) (H : Heap) (locs : List Loc) (ls : Array Slot), lwI D s b c0 c1 x1 mm out outD j (j + 1) σ sn hs t H locs ls → W p l e lwR s m #[Value.ref b] below meth c H locs (cells + 50000) (slots + 228000) Q (F0 m 2493 ls [])) : W p l e lwR s m #[Value.ref b] below meth c H locs cells slots Q (F0 m 236 ls []) := by
  obtain ⟨hx, hb, hml, hown, hts, hlk, hK, hl9, hX, hbl, hbs, hL72, hc0, hco, hod, hdc⟩ := C0
  obtain ⟨hS, hl, hW, hM, ⟨go, hA_out⟩, ⟨gd, hA_outD⟩, hc1, htl⟩ := I0
  have hB : ∀ q, (kNW s.heap) q → kBase D ≤ q := fun q h => Nat.le_trans hK.size h
  have hbA : ¬ (kNW s.heap) b := fun h => by have h9 : s.heap.size ≤ b := h; omega
  have hd9 := hK.dis
  have hxE : ¬ kBase D ≤ D.2.2.2 2 := hK.tE.out
  obtain ⟨z1, hz1⟩ : ∃ z, z = (xs (3 * j + 1)).toInt := ⟨_, rfl⟩
  obtain ⟨z2, hz2⟩ : ∃ z, z = (xs (3 * j + 2)).toInt := ⟨_, rfl⟩
  have hr1 : -2147483648 ≤ z1 ∧ z1 ≤ 2147483647 := by rw [hz1]; exact i32r _
  have hr2 : -2147483648 ≤ z2 ∧ z2 ≤ 2147483647 := by rw [hz2]; exact i32r _
  obtain ⟨⟨st, la, ea, F⟩, sl, hl2, hi, es, bu, vb, hO_x1, hDq, hTx, hX5, hev, hAl, hDj, hPw, hsl, hsn, hhs⟩ := id hW
  subst hsn
  subst hhs
  obtain ⟨ra, sa, ka, ta, nh, ik, th, sp9, iw, le9, fi9, se9, g, gs, gk, gt, hO_mm, hA_ra, hA_sa, hA_ka, hA_ta, hMr, hMh, hMk, hMt, ht60, hMd, hMb, hMi⟩ := id hM
  have hMr : MRow g S gap := hMr
  have h0 := hAl _ List.mem_cons_self
  have hP_kState_st : kState D H st la ea gap S F := h0.1
  have hok : LsOK S gap := h0.2.1
  have hG : StG S := h0.2.2.1
  have hL8 : S.length ≤ 8 := hok.1
  have hgp := hok.2.1
  have hO_x1 : kO D H x1 0 [.ref st, va_rf ((sl.map (fun a => a.1.1)).head?), .ref hi, .ref bu] := hO_x1
  have hOw : ∀ q, kOwn D st la ea F S.length q → q ∉ [x1, hi, es, bu, vb] ∧ (q < c0 ∨ c1 ≤ q) := h0.2.2.2
  have hev : Hd (es ≠ vb) := hev
  have io_x1 : ∀ x, c0 ≤ x → x < c1 → x ≠ x1 := fun x => out_of (hX5 x1 (by simp)).2
  have io_hi : ∀ x, c0 ≤ x → x < c1 → x ≠ hi := fun x => out_of (hX5 hi (by simp)).2
  have io_es : ∀ x, c0 ≤ x → x < c1 → x ≠ es := fun x => out_of (hX5 es (by simp)).2
  have io_bu : ∀ x, c0 ≤ x → x < c1 → x ≠ bu := fun x => out_of (hX5 bu (by simp)).2
  have io_vb : ∀ x, c0 ≤ x → x < c1 → x ≠ vb := fun x => out_of (hX5 vb (by simp)).2
  have b_x1 := (hX5 x1 (by simp)).1
  have b_hi := (hX5 hi (by simp)).1
  have b_es := (hX5 es (by simp)).1
  have b_bu := (hX5 bu (by simp)).1
  have b_vb := (hX5 vb (by simp)).1
  obtain ⟨⟨⟨n1, n2, n3, n4⟩, n5, n6, n7⟩, n8, n9, n10⟩ := hMd
  have n_mm_ra : Hd (mm ≠ ra) := n1
  have n_mm_sa : Hd (mm ≠ sa) := n2
  have n_mm_ka : Hd (mm ≠ ka) := n3
  have n_mm_ta : Hd (mm ≠ ta) := n4
  have n_ra_sa : Hd (ra ≠ sa) := n5
  have n_ra_ka : Hd (ra ≠ ka) := n6
  have n_ra_ta : Hd (ra ≠ ta) := n7
  have n_sa_ka : Hd (sa ≠ ka) := n8
  have n_sa_ta : Hd (sa ≠ ta) := n9
  have n_ka_ta : Hd (ka ≠ ta) := n10
  have hMd : Hd (((mm ≠ ra ∧ mm ≠ sa ∧ mm ≠ ka ∧ mm ≠ ta) ∧ ra ≠ sa ∧ ra ≠ ka ∧ ra ≠ ta) ∧ sa ≠ ka ∧ sa ≠ ta ∧ ka ≠ ta) := ⟨⟨⟨n1, n2, n3, n4⟩, n5, n6, n7⟩, n8, n9, n10⟩
  clear n1 n2 n3 n4 n5 n6 n7 n8 n9 n10
  obtain ⟨b_mm, b_ra, b_sa, b_ka, b_ta⟩ := id hMb
  obtain ⟨i_mm, i_ra, i_sa, i_ka, i_ta⟩ := id hMi
  have b_out : kBase D ≤ out := by omega
  have hcc : c0 ≤ c1 := by omega
  have w_mm : mm < c1 := by omega
  have n_mm_out : Hd (mm ≠ out) := Nat.ne_of_lt i_mm.2
  have n_mm_outD : Hd (mm ≠ outD) := Nat.ne_of_lt (Nat.lt_trans i_mm.2 hod)
  have w_ra : ra < c1 := by omega
  have n_ra_out : Hd (ra ≠ out) := Nat.ne_of_lt i_ra.2
  have n_ra_outD : Hd (ra ≠ outD) := Nat.ne_of_lt (Nat.lt_trans i_ra.2 hod)
  have w_sa : sa < c1 := by omega
  have n_sa_out : Hd (sa ≠ out) := Nat.ne_of_lt i_sa.2
  have n_sa_outD : Hd (sa ≠ outD) := Nat.ne_of_lt (Nat.lt_trans i_sa.2 hod)
  have w_ka : ka < c1 := by omega
  have n_ka_out : Hd (ka ≠ out) := Nat.ne_of_lt i_ka.2
  have n_ka_outD : Hd (ka ≠ outD) := Nat.ne_of_lt (Nat.lt_trans i_ka.2 hod)
  have w_ta : ta < c1 := by omega
  have n_ta_out : Hd (ta ≠ out) := Nat.ne_of_lt i_ta.2
  have n_ta_outD : Hd (ta ≠ outD) := Nat.ne_of_lt (Nat.lt_trans i_ta.2 hod)
  have ge_mm : ∀ q, q = mm → kNW s.heap q := fun q h => by rw [h]; show s.heap.size ≤ mm; omega
  have ge_ra : ∀ q, q = ra → kNW s.heap q := fun q h => by rw [h]; show s.heap.size ≤ ra; omega
  have ge_sa : ∀ q, q = sa → kNW s.heap q := fun q h => by rw [h]; show s.heap.size ≤ sa; omega
  have ge_ka : ∀ q, q = ka → kNW s.heap q := fun q h => by rw [h]; show s.heap.size ≤ ka; omega
  have ge_ta : ∀ q, q = ta → kNW s.heap q := fun q h => by rw [h]; show s.heap.size ≤ ta; omega
  have ge_out : ∀ q, q = out → kNW s.heap q := fun q h => by rw [h]; show s.heap.size ≤ out; omega
  have n_out_outD : Hd (out ≠ outD) := Nat.ne_of_lt hod
  have w_out : out < c1 := by omega
  have w_outD : outD < c1 := hdc
  have i_outD : c0 ≤ outD := by omega
  have htyo : kTy D H out := Or.inr ⟨2, _, by decide, hA_out⟩
  have htyd : kTy D H outD := Or.inr ⟨3, _, by decide, hA_outD⟩
  have to_out : ∀ x, x = out → H.size ≤ x ∨ (kTy D H x ∧ c0 ≤ x ∧ x < c1) := fun x h => by rw [h]; exact Or.inr ⟨htyo, hco, w_out⟩
  have to_outD : ∀ x, x = outD → H.size ≤ x ∨ (kTy D H x ∧ c0 ≤ x ∧ x < c1) := fun x h => by rw [h]; exact Or.inr ⟨htyd, i_outD, w_outD⟩
  obtain ⟨⟨hO_st, mc9, hO_la⟩, hLs9, hLn9, hF9, hDs9, hb1, hb2, hb3⟩ := id hP_kState_st
  have hnx : ∀ q, kOwn D st la ea F S.length q → q ≠ hi ∧ q ≠ es ∧ q ≠ x1 := fun q hq => by
    have h9 := (hOw q hq).1
    simp only [List.mem_cons, List.not_mem_nil, or_false, not_or] at h9
    exact ⟨h9.2.1, h9.2.2.1, h9.1⟩
  have hnO9 : ∀ q, kOwn D st la ea F S.length q → q ≠ out := fun q hq => (out_of (hOw q hq).2 hco w_out).symm
  have nex : Hd (x1 ≠ hi ∧ x1 ≠ es) := by
    obtain ⟨_, _, _, y1, y2, _⟩ := hDq
    exact ⟨(kO_ne hd9 y1 hO_x1 (by decide) (by decide) (by decide)).symm, kOA_ne hd9 hO_x1 y2 (by decide) (by decide)⟩
  have neo : Hd (hi ≠ out ∧ es ≠ out ∧ x1 ≠ out) := ⟨(io_hi out hco w_out).symm, (io_es out hco w_out).symm, (io_x1 out hco w_out).symm⟩
  by_cases hA : 0 ≤ z2 ∧ z2 ≤ 383
  · -- hA
    by_cases hA2 : 0 ≤ z1 ∧ z1 ≤ 99
    · -- hA2
      by_cases hA3 : S.length = 8 ∨ st_owner S z2 ≠ -1
      · -- hA3
        refine lv_aload_n hx hb dL_law_236 rfl (lv_at hl 1 rfl) ?_
        refine lv_aload_n hx hb dL_law_237 rfl (lv_at hl 0 rfl) ?_
        refine lv_iload hx hb dL_law_238 (lv_at hl 5 rfl) ?_
        refine kx_iconst hx hb dL_law_240 ?_
        refine kx_iadd hx hb dL_law_241 ?_
        refine kx_sld (i := (((3 * j : Nat) : Int) + 1)) hx hb hX hbl hbA hS (3 * j + 1) (by omega) (by omega) (by omega) dL_law_242 ?_
        refine kx_eqi (z1) (hz1.symm) ?_
        refine lv_aload_n hx hb dL_law_243 rfl (lv_at hl 0 rfl) ?_
        refine lv_iload hx hb dL_law_244 (lv_at hl 5 rfl) ?_
        refine kx_iconst hx hb dL_law_246 ?_
        refine kx_iadd hx hb dL_law_247 ?_
        refine kx_sld (i := (((3 * j : Nat) : Int) + 2)) hx hb hX hbl hbA hS (3 * j + 2) (by omega) (by omega) (by omega) dL_law_248 ?_
        refine kx_eqi (z2) (hz2.symm) ?_
        refine lv_aload_n hx hb dL_law_249 rfl (lv_at hl 3 rfl) ?_
        refine kx_ci (vx_runSW (As := [.ref x1, .int (kI (z1)), .int (kI (z2)), .ref out]) (rest := []) ⟨hx, hb, hml, hown, hts⟩ (wx_begin_3 l hl9 D H x1 ((sl.map (fun a => a.1.1)).head?) hi bu st la mc9 ea F S gap z1 z2 out hO_x1 hO_st hO_la hLs9 hLn9 (by first | assumption | omega) (by first | assumption | omega) (by first | assumption | omega) (by first | assumption | omega)) (vx_cwSW 4 hts (lw_SW q1805 q1806 q78 q1807) rfl rfl rfl (by decide +kernel) ⟨Nat.le_of_ble_eq_true rfl, Nat.le_of_ble_eq_true rfl⟩) (kx_ps hK hS hB) rfl rfl hl.1 rfl (lv_room (Nat.le_of_ble_eq_true rfl)) dL_law_250 ⟨by first | exact Nat.le_of_ble_eq_true rfl | omega | (dsimp only [lwR]; omega) | (show _ ≤ _; omega), by first | exact Nat.le_of_ble_eq_true rfl | omega | (dsimp only [lwR]; omega) | (show _ ≤ _; omega)⟩) hS (fun q _ h => by have h9 := hS.1; (try dsimp only at h); (try dsimp only); (try simp only [kNW] at h); (try simp only [kNW]); omega) (fun q h => by have h9 := hS.1; (try dsimp only at h); (try dsimp only); (try simp only [kNW] at h); (try simp only [kNW]); omega) (fun z_6 H_4 locs_1 hz_3 hF_5 hS_2 => ?_)
        have hzf_7 := hF_5.1
        have hF_5 := hF_5.nw
        obtain ⟨hv_8, hnw_9⟩ := hz_3
        subst z_6
        refine lv_istore (lv' := [(6, .int (kI (3))), (0, .ref b), (1, .ref x1), (2, .ref mm), (3, .ref out), (4, .ref outD), (5, .int (kI ((3 * j : Nat) : Int)))]) hx hb dL_law_253 hl (by decide) rfl (fun ls hl => ?_)
        refine lv_aload_n hx hb dL_law_255 rfl (lv_at hl 3 rfl) ?_
        refine lv_aload_n hx hb dL_law_256 rfl (lv_at hl 1 rfl) ?_
        refine lv_iload hx hb dL_law_257 (lv_at hl 6 rfl) ?_
        refine kx_iconst hx hb dL_law_259 ?_
        refine kx_iadd hx hb dL_law_260 ?_
        refine kx_sld (i := (((3 * j : Nat) : Int) + 1)) hx hb hX hbl hbA hS_2 (3 * j + 1) (by omega) (by omega) (by omega) dL_law_261 ?_
        refine kx_eqi (z1) (hz1.symm) ?_
        refine lv_aload_n hx hb dL_law_262 rfl (lv_at hl 1 rfl) ?_
        refine lv_iload hx hb dL_law_263 (lv_at hl 6 rfl) ?_
        refine kx_iconst hx hb dL_law_265 ?_
        refine kx_iadd hx hb dL_law_266 ?_
        refine kx_sld (i := (((3 * j : Nat) : Int) + 2)) hx hb hX hbl hbA hS_2 (3 * j + 2) (by omega) (by omega) (by omega) dL_law_267 ?_
        refine kx_eqi (z2) (hz2.symm) ?_
        have h_10 := hO_mm.ex hF_5
        have h_11 := hA_ra.ex hF_5
        have h_12 := hA_sa.ex hF_5
        have h_13 := hA_ka.ex hF_5
        have h_14 := hA_ta.ex hF_5
        have ty_mm : ∀ x, x = mm → H_4.size ≤ x ∨ (kTy D H_4 x ∧ c0 ≤ x ∧ x < c1) := fun x h => by rw [h]; exact Or.inr ⟨Or.inl ⟨2, _, by decide, by decide, by decide, h_10⟩, i_mm.1, w_mm⟩
        refine kx_ci (va_runV (As := [.int (kI (z1)), .int (kI (z2))]) (rest := []) ⟨hx, hb, hml, hown, hts⟩ (m_X3_begin_no l D H_4 mm ra sa ka ta nh ik t.length th sp9 iw le9 fi9 se9 g gs S gap ((hl2.map Prod.snd)) z1 z2 h_10 h_11 h_12 (by first | assumption | omega) (by first | assumption | omega) (by first | assumption | omega) n_mm_ra n_mm_sa n_ra_sa b_mm b_ra b_sa (by first | assumption | omega) (by first | assumption | omega) (by rw [rb3 hA hA2 hA3]; decide) (by rw [rb3 hA hA2 hA3]; decide)) (cwV 2 hts (lw_V q2282 q2283 q2284 q89 q2285) rfl rfl rfl (by decide +kernel) ⟨Nat.le_of_ble_eq_true rfl, Nat.le_of_ble_eq_true rfl⟩) (kx_pv hK hS_2 hB (kx_rc hK h_10 (C := RX3) (T := TX3) (N := 13) rfl)) rfl rfl hl.1 rfl (lv_room (Nat.le_of_ble_eq_true rfl)) dL_law_268 ⟨by first | exact Nat.le_of_ble_eq_true rfl | omega | (dsimp only [lwR]; omega) | (show _ ≤ _; omega), by first | exact Nat.le_of_ble_eq_true rfl | omega | (dsimp only [lwR]; omega) | (show _ ≤ _; omega)⟩) hS_2 (fun q _ h => (ge_mm q) h) (fun q h => (ge_mm q) h) (fun z_20 H_18 locs_15 hz_17 hF_19 hS_16 => ?_)
        have hzf_21 := hF_19.1
        obtain ⟨hv_22, ho_23⟩ := hz_17
        subst z_20
        refine lv_istore (lv' := [(7, .int (kI (0))), (6, .int (kI (3))), (0, .ref b), (1, .ref x1), (2, .ref mm), (3, .ref out), (4, .ref outD), (5, .int (kI ((3 * j : Nat) : Int)))]) hx hb dL_law_271 hl (by decide) rfl (fun ls hl => ?_)
        refine lv_aload_n hx hb dL_law_273 rfl (lv_at hl 4 rfl) ?_
        refine kx_ci0 (va_runV (As := []) (rest := []) ⟨hx, hb, hml, hown, hts⟩ (m_X3_thrown l D H_18 mm ra sa ka ta nh ik t.length (ref_b S z1 z2) sp9 iw le9 fi9 se9 ho_23 ) (cwV 0 hts (lw_V q2278 q2279 q2280 q89 q2281) rfl rfl rfl (by decide +kernel) ⟨Nat.le_of_ble_eq_true rfl, Nat.le_of_ble_eq_true rfl⟩) (kx_pv hK hS_16 hB (kx_rc hK ho_23 (C := RX3) (T := TX3) (N := 13) rfl)) rfl rfl hl.1 rfl (lv_room (Nat.le_of_ble_eq_true rfl)) dL_law_274 ⟨by first | exact Nat.le_of_ble_eq_true rfl | omega | (dsimp only [lwR]; omega) | (show _ ≤ _; omega), by first | exact Nat.le_of_ble_eq_true rfl | omega | (dsimp only [lwR]; omega) | (show _ ≤ _; omega)⟩) hS_16 (fun z_27 locs_24 hz_26 hS_25 => ?_)
        subst z_27
        refine kx_eqi (3) (rb3 hA hA2 hA3) ?_
        refine lv_iload hx hb dL_law_277 (lv_at hl 1 rfl) ?_
        refine kx_icmp_eq (x := 3) (y := 3) (tgt := 284) hx hb dL_law_279 (by decide) (by omega) (by omega) (by omega) (by omega) (fun c_279_28 => ?_) (fun c_279_28 => ?_)
        · -- taken at 279
          refine lv_iload hx hb dL_law_284 (lv_at hl 1 rfl) ?_
          refine kx_if_ne (x := 3) (tgt := 301) hx hb dL_law_286 (by decide) (by omega) (by omega) (fun c_286_29 => ?_) (fun c_286_29 => ?_)
          · -- taken at 286
            refine lv_goto (tgt := 2493) hx hb dL_law_301 (by decide) ?_
            have h_30 := h_11.fr hF_19 (n_mm_ra.sm)
            have h_31 := h_12.fr hF_19 (n_mm_sa.sm)
            have h_32 := h_13.fr hF_19 (n_mm_ka.sm)
            have h_33 := h_14.fr hF_19 (n_mm_ta.sm)
            have h_34 := hA_out.ex hF_5
            have h_35 := h_34.fr hF_19 (n_mm_out.sm)
            have h_36 := hA_outD.ex hF_5
            have h_37 := h_36.fr hF_19 (n_mm_outD.sm)
            have h_38 := hW.ex hd9 hF_5
            have h_39 := h_38.fr hd9 hF_19 (fun x => (ty_mm x))
            refine W.widen (k := cells + 50000) (n := slots + 228000) (by omega) (by omega) ?_
            have hM9 : kM D H_18 c0 out mm (S, gap) ((sl.map Prod.snd).head?) (hl2.map Prod.snd) t := ⟨ra, sa, ka, ta, _, _, _, _, _, _, _, _, _, _, _, _, ho_23, h_30, h_31, h_32, h_33, hMr, hMh, hMk, hMt, ht60, hMd, hMb, hMi⟩
            exact kk (S, gap) ((sl.map Prod.snd).head?) (hl2.map Prod.snd) t _ _ _ ⟨hS_25, lv_sub hl [2, 3, 4, 5, 6, 7] rfl, h_39, hM9, ⟨_, h_35⟩, ⟨_, h_37⟩, by omega, by omega⟩
          · -- not taken at 286
            exfalso; omega
        · -- not taken at 279
          exfalso; omega
      · -- hA3
        have hl8 : S.length < 8 := by omega
        have hno : st_owner S z2 = -1 := by omega
        have hrv : -2147483648 ≤ ((S.length : Nat) : Int) ∧ ((S.length : Nat) : Int) ≤ 2147483647 := ⟨by omega, by omega⟩
        refine lv_aload_n hx hb dL_law_236 rfl (lv_at hl 1 rfl) ?_
        refine lv_aload_n hx hb dL_law_237 rfl (lv_at hl 0 rfl) ?_
        refine lv_iload hx hb dL_law_238 (lv_at hl 5 rfl) ?_
        refine kx_iconst hx hb dL_law_240 ?_
        refine kx_iadd hx hb dL_law_241 ?_
        refine kx_sld (i := (((3 * j : Nat) : Int) + 1)) hx hb hX hbl hbA hS (3 * j + 1) (by omega) (by omega) (by omega) dL_law_242 ?_
        refine kx_eqi (z1) (hz1.symm) ?_
        refine lv_aload_n hx hb dL_law_243 rfl (lv_at hl 0 rfl) ?_
        refine lv_iload hx hb dL_law_244 (lv_at hl 5 rfl) ?_
        refine kx_iconst hx hb dL_law_246 ?_
        refine kx_iadd hx hb dL_law_247 ?_
        refine kx_sld (i := (((3 * j : Nat) : Int) + 2)) hx hb hX hbl hbA hS (3 * j + 2) (by omega) (by omega) (by omega) dL_law_248 ?_
        refine kx_eqi (z2) (hz2.symm) ?_
        refine lv_aload_n hx hb dL_law_249 rfl (lv_at hl 3 rfl) ?_
        refine kx_ci (vx_runSW (As := [.ref x1, .int (kI (z1)), .int (kI (z2)), .ref out]) (rest := []) ⟨hx, hb, hml, hown, hts⟩ (wr_begin l hl9 D H x1 ((sl.map (fun a => a.1.1)).head?) hi bu es ((hl2.map (fun a => a.1.1))) st la ea F S gap z1 z2 out go hO_x1 hP_kState_st hDq hA_out (by first | assumption | omega) (by first | assumption | omega) (by first | assumption | omega) (by first | assumption | omega) nex (by first | assumption | omega) (by first | assumption | omega) (by first | assumption | omega) (by first | assumption | omega) (by first | assumption | omega) (by first | assumption | omega) neo (by first | assumption | omega)) (vx_cwSW 4 hts (lw_SW q1805 q1806 q78 q1807) rfl rfl rfl (by decide +kernel) ⟨Nat.le_of_ble_eq_true rfl, Nat.le_of_ble_eq_true rfl⟩) (kx_ps hK hS hB) rfl rfl hl.1 rfl (lv_room (Nat.le_of_ble_eq_true rfl)) dL_law_250 ⟨by first | exact Nat.le_of_ble_eq_true rfl | omega | (dsimp only [lwR]; omega) | (show _ ≤ _; omega), by first | exact Nat.le_of_ble_eq_true rfl | omega | (dsimp only [lwR]; omega) | (show _ ≤ _; omega)⟩) hS (fun q _ h => (fun h => Or.elim h (ge_out q) (fun h => Or.elim h (fun h => by have h8 := hP_kState_st.ownge h; show s.heap.size ≤ q; omega) (fun h => Or.elim h (fun h => by rw [h]; show s.heap.size ≤ hi; omega) (fun h => Or.elim h (fun h => by rw [h]; show s.heap.size ≤ es; omega) (fun h => Nat.le_trans hS.1 h))))) h) (fun q h => (fun h => Or.elim h (ge_out q) (fun h => Or.elim h (fun h => by have h8 := hP_kState_st.ownge h; show s.heap.size ≤ q; omega) (fun h => Or.elim h (fun h => by rw [h]; show s.heap.size ≤ hi; omega) (fun h => Or.elim h (fun h => by rw [h]; show s.heap.size ≤ es; omega) (fun h => Nat.le_trans hS.1 h))))) h) (fun z_45 H_43 locs_40 hz_42 hF_44 hS_41 => ?_)
        have hzf_46 := hF_44.1
        obtain ⟨crw, la2w, ea2w, F2w, ea3w, F3w, hv_53, ho_54, ho_55, ho_56, ho_57, ho_58, hw1, hw2, hw3⟩ := hz_42
        subst z_45
        have hW9 : kW D H_43 c0 c1 x1 (S ++ [w_new z1 z2], gap) ((sl.map Prod.snd).head?) (pushH (hl2.map Prod.snd) (S, gap)) t := kW.change (out := out) hd9 hxE hO_x1 hDq hTx hX5 hev hAl hDj hPw hsl hF_44 htyo ⟨hco, w_out⟩ hc1 ho_54 ho_55 ho_56 ho_57 hw1 hw2 hw3 (hok.push hl8 (LnOK.new hA2 hA)) (hG.push hno)
        refine lv_istore (lv' := [(6, .int (kI (0))), (0, .ref b), (1, .ref x1), (2, .ref mm), (3, .ref out), (4, .ref outD), (5, .int (kI ((3 * j : Nat) : Int)))]) hx hb dL_law_253 hl (by decide) rfl (fun ls hl => ?_)
        refine lv_aload_n hx hb dL_law_255 rfl (lv_at hl 3 rfl) ?_
        refine lv_aload_n hx hb dL_law_256 rfl (lv_at hl 1 rfl) ?_
        refine lv_iload hx hb dL_law_257 (lv_at hl 6 rfl) ?_
        refine kx_iconst hx hb dL_law_259 ?_
        refine kx_iadd hx hb dL_law_260 ?_
        refine kx_sld (i := (((3 * j : Nat) : Int) + 1)) hx hb hX hbl hbA hS_41 (3 * j + 1) (by omega) (by omega) (by omega) dL_law_261 ?_
        refine kx_eqi (z1) (hz1.symm) ?_
        refine lv_aload_n hx hb dL_law_262 rfl (lv_at hl 1 rfl) ?_
        refine lv_iload hx hb dL_law_263 (lv_at hl 6 rfl) ?_
        refine kx_iconst hx hb dL_law_265 ?_
        refine kx_iadd hx hb dL_law_266 ?_
        refine kx_sld (i := (((3 * j : Nat) : Int) + 2)) hx hb hX hbl hbA hS_41 (3 * j + 2) (by omega) (by omega) (by omega) dL_law_267 ?_
        refine kx_eqi (z2) (hz2.symm) ?_
        have h_59 := hO_mm.fr hF_44 (fun h => Or.elim h (n_mm_out) (fun h => Or.elim h (fun h => out_of (hOw _ h).2 i_mm.1 w_mm rfl) (fun h => Or.elim h (io_hi _ i_mm.1 w_mm) (fun h => Or.elim h (io_es _ i_mm.1 w_mm) (fun h => Nat.not_le_of_gt hO_mm.lt h)))))
        have h_60 := hA_ra.fr hF_44 (fun h => Or.elim h (n_ra_out) (fun h => Or.elim h (fun h => out_of (hOw _ h).2 i_ra.1 w_ra rfl) (fun h => Or.elim h (io_hi _ i_ra.1 w_ra) (fun h => Or.elim h (io_es _ i_ra.1 w_ra) (fun h => Nat.not_le_of_gt hA_ra.lt h)))))
        have h_61 := hA_sa.fr hF_44 (fun h => Or.elim h (n_sa_out) (fun h => Or.elim h (fun h => out_of (hOw _ h).2 i_sa.1 w_sa rfl) (fun h => Or.elim h (io_hi _ i_sa.1 w_sa) (fun h => Or.elim h (io_es _ i_sa.1 w_sa) (fun h => Nat.not_le_of_gt hA_sa.lt h)))))
        have h_62 := hA_ka.fr hF_44 (fun h => Or.elim h (n_ka_out) (fun h => Or.elim h (fun h => out_of (hOw _ h).2 i_ka.1 w_ka rfl) (fun h => Or.elim h (io_hi _ i_ka.1 w_ka) (fun h => Or.elim h (io_es _ i_ka.1 w_ka) (fun h => Nat.not_le_of_gt hA_ka.lt h)))))
        have h_63 := hA_ta.fr hF_44 (fun h => Or.elim h (n_ta_out) (fun h => Or.elim h (fun h => out_of (hOw _ h).2 i_ta.1 w_ta rfl) (fun h => Or.elim h (io_hi _ i_ta.1 w_ta) (fun h => Or.elim h (io_es _ i_ta.1 w_ta) (fun h => Nat.not_le_of_gt hA_ta.lt h)))))
        have ty_mm : ∀ x, x = mm → H_43.size ≤ x ∨ (kTy D H_43 x ∧ c0 ≤ x ∧ x < c1) := fun x h => by rw [h]; exact Or.inr ⟨Or.inl ⟨2, _, by decide, by decide, by decide, h_59⟩, i_mm.1, w_mm⟩
        have ty_ra : ∀ x, x = ra → H_43.size ≤ x ∨ (kTy D H_43 x ∧ c0 ≤ x ∧ x < c1) := fun x h => by rw [h]; exact Or.inr ⟨Or.inr ⟨0, _, by decide, h_60⟩, i_ra.1, w_ra⟩
        have ty_sa : ∀ x, x = sa → H_43.size ≤ x ∨ (kTy D H_43 x ∧ c0 ≤ x ∧ x < c1) := fun x h => by rw [h]; exact Or.inr ⟨Or.inr ⟨0, _, by decide, h_61⟩, i_sa.1, w_sa⟩
        refine kx_ci (va_runV (As := [.int (kI (z1)), .int (kI (z2))]) (rest := []) ⟨hx, hb, hml, hown, hts⟩ (m_X3_begin l D H_43 mm ra sa ka ta nh ik t.length th sp9 iw le9 fi9 se9 g gs S gap ((hl2.map Prod.snd)) z1 z2 h_59 h_60 h_61 (by first | assumption | omega) (by first | assumption | omega) (by first | assumption | omega) n_mm_ra n_mm_sa n_ra_sa b_mm b_ra b_sa (by first | assumption | omega) (by first | assumption | omega) (by first | assumption | omega) (rb0 hA hA2 hA3)) (cwV 2 hts (lw_V q2282 q2283 q2284 q89 q2285) rfl rfl rfl (by decide +kernel) ⟨Nat.le_of_ble_eq_true rfl, Nat.le_of_ble_eq_true rfl⟩) (kx_pv hK hS_41 hB (kx_rc hK h_59 (C := RX3) (T := TX3) (N := 13) rfl)) rfl rfl hl.1 rfl (lv_room (Nat.le_of_ble_eq_true rfl)) dL_law_268 ⟨by first | exact Nat.le_of_ble_eq_true rfl | omega | (dsimp only [lwR]; omega) | (show _ ≤ _; omega), by first | exact Nat.le_of_ble_eq_true rfl | omega | (dsimp only [lwR]; omega) | (show _ ≤ _; omega)⟩) hS_41 (fun q _ h => (fun h => Or.elim h (ge_mm q) (fun h => Or.elim h (ge_ra q) (ge_sa q))) h) (fun q h => (fun h => Or.elim h (ge_mm q) (fun h => Or.elim h (ge_ra q) (ge_sa q))) h) (fun z_69 H_67 locs_64 hz_66 hF_68 hS_65 => ?_)
        have hzf_70 := hF_68.1
        obtain ⟨g2_71, gs2_72, sn2_73, hv_74, ho_75, ho_76, ho_77, hM29, hH29⟩ := hz_66
        subst z_69
        refine lv_istore (lv' := [(7, .int (kI ((S.length : Nat) : Int))), (6, .int (kI (0))), (0, .ref b), (1, .ref x1), (2, .ref mm), (3, .ref out), (4, .ref outD), (5, .int (kI ((3 * j : Nat) : Int)))]) hx hb dL_law_271 hl (by decide) rfl (fun ls hl => ?_)
        refine lv_aload_n hx hb dL_law_273 rfl (lv_at hl 4 rfl) ?_
        refine kx_ci0 (va_runV (As := []) (rest := []) ⟨hx, hb, hml, hown, hts⟩ (m_X3_thrown l D H_67 mm ra sa ka ta sn2_73 ik t.length 0 sp9 iw le9 fi9 se9 ho_75 ) (cwV 0 hts (lw_V q2278 q2279 q2280 q89 q2281) rfl rfl rfl (by decide +kernel) ⟨Nat.le_of_ble_eq_true rfl, Nat.le_of_ble_eq_true rfl⟩) (kx_pv hK hS_65 hB (kx_rc hK ho_75 (C := RX3) (T := TX3) (N := 13) rfl)) rfl rfl hl.1 rfl (lv_room (Nat.le_of_ble_eq_true rfl)) dL_law_274 ⟨by first | exact Nat.le_of_ble_eq_true rfl | omega | (dsimp only [lwR]; omega) | (show _ ≤ _; omega), by first | exact Nat.le_of_ble_eq_true rfl | omega | (dsimp only [lwR]; omega) | (show _ ≤ _; omega)⟩) hS_65 (fun z_81 locs_78 hz_80 hS_79 => ?_)
        subst z_81
        refine lv_iload hx hb dL_law_277 (lv_at hl 1 rfl) ?_
        refine kx_icmp_eq (x := 0) (y := 0) (tgt := 284) hx hb dL_law_279 (by decide) (by omega) (by omega) (by omega) (by omega) (fun c_279_82 => ?_) (fun c_279_82 => ?_)
        · -- taken at 279
          refine lv_iload hx hb dL_law_284 (lv_at hl 1 rfl) ?_
          refine kx_if_ne (x := 0) (tgt := 301) hx hb dL_law_286 (by decide) (by omega) (by omega) (fun c_286_83 => ?_) (fun c_286_83 => ?_)
          · -- taken at 286
            exfalso; omega
          · -- not taken at 286
            refine lv_aload_n hx hb dL_law_289 rfl (lv_at hl 5 rfl) ?_
            refine kx_iconst hx hb dL_law_290 ?_
            have h_84 := ho_58.fr hF_68 (fun h => Or.elim h (n_mm_out.sm) (fun h => Or.elim h (n_ra_out.sm) (n_sa_out.sm)))
            refine kx_lald (i := 0) hx hb hK h_84 0 rfl (by decide) (by decide) dL_law_291 ?_
            refine lv_iload hx hb dL_law_292 (lv_at hl 0 rfl) ?_
            refine kx_i2l hx hb (z := ((S.length : Nat) : Int)) (by omega) (by omega) dL_law_294 ?_
            refine kx_lcmpE hx hb (x := ((kup go 0 (kL (((S.length : Nat) : Int))))) 0) (y := kL (((S.length : Nat) : Int))) (kup_self _ _ _) dL_law_295 ?_
            refine kx_if_eq (x := 0) (tgt := 301) hx hb dL_law_296 (by decide) (by omega) (by omega) (fun c_296_85 => ?_) (fun c_296_85 => ?_)
            · -- taken at 296
              refine lv_goto (tgt := 2493) hx hb dL_law_301 (by decide) ?_
              have h_86 := h_62.fr hF_68 (fun h => Or.elim h (n_mm_ka.sm) (fun h => Or.elim h (n_ra_ka.sm) (n_sa_ka.sm)))
              have h_87 := h_63.fr hF_68 (fun h => Or.elim h (n_mm_ta.sm) (fun h => Or.elim h (n_ra_ta.sm) (n_sa_ta.sm)))
              have h_88 := hA_outD.fr hF_44 (fun h => Or.elim h (n_out_outD.sm) (fun h => Or.elim h (fun h => out_of (hOw _ h).2 i_outD w_outD rfl) (fun h => Or.elim h (io_hi _ i_outD w_outD) (fun h => Or.elim h (io_es _ i_outD w_outD) (fun h => Nat.not_le_of_gt hA_outD.lt h)))))
              have h_89 := h_88.fr hF_68 (fun h => Or.elim h (n_mm_outD.sm) (fun h => Or.elim h (n_ra_outD.sm) (n_sa_outD.sm)))
              have h_90 := hW9.fr hd9 hF_68 (fun x => (fun h => Or.elim h (ty_mm x) (fun h => Or.elim h (ty_ra x) (ty_sa x))))
              refine W.widen (k := cells + 50000) (n := slots + 228000) (by omega) (by omega) ?_
              have hM9 : kM D H_67 c0 out mm (S ++ [w_new z1 z2], gap) ((sl.map Prod.snd).head?) (pushH (hl2.map Prod.snd) (S, gap)) t := ⟨ra, sa, ka, ta, _, _, _, _, _, _, _, _, _, _, _, _, ho_75, ho_76, ho_77, h_86, h_87, hM29, hH29, hMk, hMt, ht60, hMd, hMb, hMi⟩
              exact kk (S ++ [w_new z1 z2], gap) ((sl.map Prod.snd).head?) (pushH (hl2.map Prod.snd) (S, gap)) t _ _ _ ⟨hS_79, lv_sub hl [2, 3, 4, 5, 6, 7] rfl, h_90, hM9, ⟨_, h_84⟩, ⟨_, h_89⟩, by omega, by omega⟩
            · -- not taken at 296
              exfalso; omega
        · -- not taken at 279
          exfalso; omega
    · -- hA2
      refine lv_aload_n hx hb dL_law_236 rfl (lv_at hl 1 rfl) ?_
      refine lv_aload_n hx hb dL_law_237 rfl (lv_at hl 0 rfl) ?_
      refine lv_iload hx hb dL_law_238 (lv_at hl 5 rfl) ?_
      refine kx_iconst hx hb dL_law_240 ?_
      refine kx_iadd hx hb dL_law_241 ?_
      refine kx_sld (i := (((3 * j : Nat) : Int) + 1)) hx hb hX hbl hbA hS (3 * j + 1) (by omega) (by omega) (by omega) dL_law_242 ?_
      refine kx_eqi (z1) (hz1.symm) ?_
      refine lv_aload_n hx hb dL_law_243 rfl (lv_at hl 0 rfl) ?_
      refine lv_iload hx hb dL_law_244 (lv_at hl 5 rfl) ?_
      refine kx_iconst hx hb dL_law_246 ?_
      refine kx_iadd hx hb dL_law_247 ?_
      refine kx_sld (i := (((3 * j : Nat) : Int) + 2)) hx hb hX hbl hbA hS (3 * j + 2) (by omega) (by omega) (by omega) dL_law_248 ?_
      refine kx_eqi (z2) (hz2.symm) ?_
      refine lv_aload_n hx hb dL_law_249 rfl (lv_at hl 3 rfl) ?_
      refine kx_ci (vx_runSW (As := [.ref x1, .int (kI (z1)), .int (kI (z2)), .ref out]) (rest := []) ⟨hx, hb, hml, hown, hts⟩ (wx_begin_2 l hl9 D H x1 ((sl.map (fun a => a.1.1)).head?) hi bu st la mc9 ea F S gap z1 z2 out hO_x1 hO_st hO_la hLs9 hLn9 (by first | assumption | omega) (by first | assumption | omega) (by first | assumption | omega) (by first | assumption | omega)) (vx_cwSW 4 hts (lw_SW q1805 q1806 q78 q1807) rfl rfl rfl (by decide +kernel) ⟨Nat.le_of_ble_eq_true rfl, Nat.le_of_ble_eq_true rfl⟩) (kx_ps hK hS hB) rfl rfl hl.1 rfl (lv_room (Nat.le_of_ble_eq_true rfl)) dL_law_250 ⟨by first | exact Nat.le_of_ble_eq_true rfl | omega | (dsimp only [lwR]; omega) | (show _ ≤ _; omega), by first | exact Nat.le_of_ble_eq_true rfl | omega | (dsimp only [lwR]; omega) | (show _ ≤ _; omega)⟩) hS (fun q _ h => by have h9 := hS.1; (try dsimp only at h); (try dsimp only); (try simp only [kNW] at h); (try simp only [kNW]); omega) (fun q h => by have h9 := hS.1; (try dsimp only at h); (try dsimp only); (try simp only [kNW] at h); (try simp only [kNW]); omega) (fun z_96 H_94 locs_91 hz_93 hF_95 hS_92 => ?_)
      have hzf_97 := hF_95.1
      have hF_95 := hF_95.nw
      obtain ⟨hv_98, hnw_99⟩ := hz_93
      subst z_96
      refine lv_istore (lv' := [(6, .int (kI (2))), (0, .ref b), (1, .ref x1), (2, .ref mm), (3, .ref out), (4, .ref outD), (5, .int (kI ((3 * j : Nat) : Int)))]) hx hb dL_law_253 hl (by decide) rfl (fun ls hl => ?_)
      refine lv_aload_n hx hb dL_law_255 rfl (lv_at hl 3 rfl) ?_
      refine lv_aload_n hx hb dL_law_256 rfl (lv_at hl 1 rfl) ?_
      refine lv_iload hx hb dL_law_257 (lv_at hl 6 rfl) ?_
      refine kx_iconst hx hb dL_law_259 ?_
      refine kx_iadd hx hb dL_law_260 ?_
      refine kx_sld (i := (((3 * j : Nat) : Int) + 1)) hx hb hX hbl hbA hS_92 (3 * j + 1) (by omega) (by omega) (by omega) dL_law_261 ?_
      refine kx_eqi (z1) (hz1.symm) ?_
      refine lv_aload_n hx hb dL_law_262 rfl (lv_at hl 1 rfl) ?_
      refine lv_iload hx hb dL_law_263 (lv_at hl 6 rfl) ?_
      refine kx_iconst hx hb dL_law_265 ?_
      refine kx_iadd hx hb dL_law_266 ?_
      refine kx_sld (i := (((3 * j : Nat) : Int) + 2)) hx hb hX hbl hbA hS_92 (3 * j + 2) (by omega) (by omega) (by omega) dL_law_267 ?_
      refine kx_eqi (z2) (hz2.symm) ?_
      have h_100 := hO_mm.ex hF_95
      have h_101 := hA_ra.ex hF_95
      have h_102 := hA_sa.ex hF_95
      have h_103 := hA_ka.ex hF_95
      have h_104 := hA_ta.ex hF_95
      have ty_mm : ∀ x, x = mm → H_94.size ≤ x ∨ (kTy D H_94 x ∧ c0 ≤ x ∧ x < c1) := fun x h => by rw [h]; exact Or.inr ⟨Or.inl ⟨2, _, by decide, by decide, by decide, h_100⟩, i_mm.1, w_mm⟩
      refine kx_ci (va_runV (As := [.int (kI (z1)), .int (kI (z2))]) (rest := []) ⟨hx, hb, hml, hown, hts⟩ (m_X3_begin_no l D H_94 mm ra sa ka ta nh ik t.length th sp9 iw le9 fi9 se9 g gs S gap ((hl2.map Prod.snd)) z1 z2 h_100 h_101 h_102 (by first | assumption | omega) (by first | assumption | omega) (by first | assumption | omega) n_mm_ra n_mm_sa n_ra_sa b_mm b_ra b_sa (by first | assumption | omega) (by first | assumption | omega) (by rw [rb2 hA hA2]; decide) (by rw [rb2 hA hA2]; decide)) (cwV 2 hts (lw_V q2282 q2283 q2284 q89 q2285) rfl rfl rfl (by decide +kernel) ⟨Nat.le_of_ble_eq_true rfl, Nat.le_of_ble_eq_true rfl⟩) (kx_pv hK hS_92 hB (kx_rc hK h_100 (C := RX3) (T := TX3) (N := 13) rfl)) rfl rfl hl.1 rfl (lv_room (Nat.le_of_ble_eq_true rfl)) dL_law_268 ⟨by first | exact Nat.le_of_ble_eq_true rfl | omega | (dsimp only [lwR]; omega) | (show _ ≤ _; omega), by first | exact Nat.le_of_ble_eq_true rfl | omega | (dsimp only [lwR]; omega) | (show _ ≤ _; omega)⟩) hS_92 (fun q _ h => (ge_mm q) h) (fun q h => (ge_mm q) h) (fun z_110 H_108 locs_105 hz_107 hF_109 hS_106 => ?_)
      have hzf_111 := hF_109.1
      obtain ⟨hv_112, ho_113⟩ := hz_107
      subst z_110
      refine lv_istore (lv' := [(7, .int (kI (0))), (6, .int (kI (2))), (0, .ref b), (1, .ref x1), (2, .ref mm), (3, .ref out), (4, .ref outD), (5, .int (kI ((3 * j : Nat) : Int)))]) hx hb dL_law_271 hl (by decide) rfl (fun ls hl => ?_)
      refine lv_aload_n hx hb dL_law_273 rfl (lv_at hl 4 rfl) ?_
      refine kx_ci0 (va_runV (As := []) (rest := []) ⟨hx, hb, hml, hown, hts⟩ (m_X3_thrown l D H_108 mm ra sa ka ta nh ik t.length (ref_b S z1 z2) sp9 iw le9 fi9 se9 ho_113 ) (cwV 0 hts (lw_V q2278 q2279 q2280 q89 q2281) rfl rfl rfl (by decide +kernel) ⟨Nat.le_of_ble_eq_true rfl, Nat.le_of_ble_eq_true rfl⟩) (kx_pv hK hS_106 hB (kx_rc hK ho_113 (C := RX3) (T := TX3) (N := 13) rfl)) rfl rfl hl.1 rfl (lv_room (Nat.le_of_ble_eq_true rfl)) dL_law_274 ⟨by first | exact Nat.le_of_ble_eq_true rfl | omega | (dsimp only [lwR]; omega) | (show _ ≤ _; omega), by first | exact Nat.le_of_ble_eq_true rfl | omega | (dsimp only [lwR]; omega) | (show _ ≤ _; omega)⟩) hS_106 (fun z_117 locs_114 hz_116 hS_115 => ?_)
      subst z_117
      refine kx_eqi (2) (rb2 hA hA2) ?_
      refine lv_iload hx hb dL_law_277 (lv_at hl 1 rfl) ?_
      refine kx_icmp_eq (x := 2) (y := 2) (tgt := 284) hx hb dL_law_279 (by decide) (by omega) (by omega) (by omega) (by omega) (fun c_279_118 => ?_) (fun c_279_118 => ?_)
      · -- taken at 279
        refine lv_iload hx hb dL_law_284 (lv_at hl 1 rfl) ?_
        refine kx_if_ne (x := 2) (tgt := 301) hx hb dL_law_286 (by decide) (by omega) (by omega) (fun c_286_119 => ?_) (fun c_286_119 => ?_)
        · -- taken at 286
          refine lv_goto (tgt := 2493) hx hb dL_law_301 (by decide) ?_
          have h_120 := h_101.fr hF_109 (n_mm_ra.sm)
          have h_121 := h_102.fr hF_109 (n_mm_sa.sm)
          have h_122 := h_103.fr hF_109 (n_mm_ka.sm)
          have h_123 := h_104.fr hF_109 (n_mm_ta.sm)
          have h_124 := hA_out.ex hF_95
          have h_125 := h_124.fr hF_109 (n_mm_out.sm)
          have h_126 := hA_outD.ex hF_95
          have h_127 := h_126.fr hF_109 (n_mm_outD.sm)
          have h_128 := hW.ex hd9 hF_95
          have h_129 := h_128.fr hd9 hF_109 (fun x => (ty_mm x))
          refine W.widen (k := cells + 50000) (n := slots + 228000) (by omega) (by omega) ?_
          have hM9 : kM D H_108 c0 out mm (S, gap) ((sl.map Prod.snd).head?) (hl2.map Prod.snd) t := ⟨ra, sa, ka, ta, _, _, _, _, _, _, _, _, _, _, _, _, ho_113, h_120, h_121, h_122, h_123, hMr, hMh, hMk, hMt, ht60, hMd, hMb, hMi⟩
          exact kk (S, gap) ((sl.map Prod.snd).head?) (hl2.map Prod.snd) t _ _ _ ⟨hS_115, lv_sub hl [2, 3, 4, 5, 6, 7] rfl, h_129, hM9, ⟨_, h_125⟩, ⟨_, h_127⟩, by omega, by omega⟩
        · -- not taken at 286
          exfalso; omega
      · -- not taken at 279
        exfalso; omega
  · -- hA
    refine lv_aload_n hx hb dL_law_236 rfl (lv_at hl 1 rfl) ?_
    refine lv_aload_n hx hb dL_law_237 rfl (lv_at hl 0 rfl) ?_
    refine lv_iload hx hb dL_law_238 (lv_at hl 5 rfl) ?_
    refine kx_iconst hx hb dL_law_240 ?_
    refine kx_iadd hx hb dL_law_241 ?_
    refine kx_sld (i := (((3 * j : Nat) : Int) + 1)) hx hb hX hbl hbA hS (3 * j + 1) (by omega) (by omega) (by omega) dL_law_242 ?_
    refine kx_eqi (z1) (hz1.symm) ?_
    refine lv_aload_n hx hb dL_law_243 rfl (lv_at hl 0 rfl) ?_
    refine lv_iload hx hb dL_law_244 (lv_at hl 5 rfl) ?_
    refine kx_iconst hx hb dL_law_246 ?_
    refine kx_iadd hx hb dL_law_247 ?_
    refine kx_sld (i := (((3 * j : Nat) : Int) + 2)) hx hb hX hbl hbA hS (3 * j + 2) (by omega) (by omega) (by omega) dL_law_248 ?_
    refine kx_eqi (z2) (hz2.symm) ?_
    refine lv_aload_n hx hb dL_law_249 rfl (lv_at hl 3 rfl) ?_
    refine kx_ci (vx_runSW (As := [.ref x1, .int (kI (z1)), .int (kI (z2)), .ref out]) (rest := []) ⟨hx, hb, hml, hown, hts⟩ (wx_begin_1 l hl9 D H x1 ((sl.map (fun a => a.1.1)).head?) hi bu st la mc9 ea F S gap z1 z2 out hO_x1 hO_st hO_la hLs9 hLn9 (by first | assumption | omega) (by first | assumption | omega) (by first | assumption | omega) (by first | assumption | omega)) (vx_cwSW 4 hts (lw_SW q1805 q1806 q78 q1807) rfl rfl rfl (by decide +kernel) ⟨Nat.le_of_ble_eq_true rfl, Nat.le_of_ble_eq_true rfl⟩) (kx_ps hK hS hB) rfl rfl hl.1 rfl (lv_room (Nat.le_of_ble_eq_true rfl)) dL_law_250 ⟨by first | exact Nat.le_of_ble_eq_true rfl | omega | (dsimp only [lwR]; omega) | (show _ ≤ _; omega), by first | exact Nat.le_of_ble_eq_true rfl | omega | (dsimp only [lwR]; omega) | (show _ ≤ _; omega)⟩) hS (fun q _ h => by have h9 := hS.1; (try dsimp only at h); (try dsimp only); (try simp only [kNW] at h); (try simp only [kNW]); omega) (fun q h => by have h9 := hS.1; (try dsimp only at h); (try dsimp only); (try simp only [kNW] at h); (try simp only [kNW]); omega) (fun z_135 H_133 locs_130 hz_132 hF_134 hS_131 => ?_)
    have hzf_136 := hF_134.1
    have hF_134 := hF_134.nw
    obtain ⟨hv_137, hnw_138⟩ := hz_132
    subst z_135
    refine lv_istore (lv' := [(6, .int (kI (1))), (0, .ref b), (1, .ref x1), (2, .ref mm), (3, .ref out), (4, .ref outD), (5, .int (kI ((3 * j : Nat) : Int)))]) hx hb dL_law_253 hl (by decide) rfl (fun ls hl => ?_)
    refine lv_aload_n hx hb dL_law_255 rfl (lv_at hl 3 rfl) ?_
    refine lv_aload_n hx hb dL_law_256 rfl (lv_at hl 1 rfl) ?_
    refine lv_iload hx hb dL_law_257 (lv_at hl 6 rfl) ?_
    refine kx_iconst hx hb dL_law_259 ?_
    refine kx_iadd hx hb dL_law_260 ?_
    refine kx_sld (i := (((3 * j : Nat) : Int) + 1)) hx hb hX hbl hbA hS_131 (3 * j + 1) (by omega) (by omega) (by omega) dL_law_261 ?_
    refine kx_eqi (z1) (hz1.symm) ?_
    refine lv_aload_n hx hb dL_law_262 rfl (lv_at hl 1 rfl) ?_
    refine lv_iload hx hb dL_law_263 (lv_at hl 6 rfl) ?_
    refine kx_iconst hx hb dL_law_265 ?_
    refine kx_iadd hx hb dL_law_266 ?_
    refine kx_sld (i := (((3 * j : Nat) : Int) + 2)) hx hb hX hbl hbA hS_131 (3 * j + 2) (by omega) (by omega) (by omega) dL_law_267 ?_
    refine kx_eqi (z2) (hz2.symm) ?_
    have h_139 := hO_mm.ex hF_134
    have h_140 := hA_ra.ex hF_134
    have h_141 := hA_sa.ex hF_134
    have h_142 := hA_ka.ex hF_134
    have h_143 := hA_ta.ex hF_134
    have ty_mm : ∀ x, x = mm → H_133.size ≤ x ∨ (kTy D H_133 x ∧ c0 ≤ x ∧ x < c1) := fun x h => by rw [h]; exact Or.inr ⟨Or.inl ⟨2, _, by decide, by decide, by decide, h_139⟩, i_mm.1, w_mm⟩
    refine kx_ci (va_runV (As := [.int (kI (z1)), .int (kI (z2))]) (rest := []) ⟨hx, hb, hml, hown, hts⟩ (m_X3_begin_no l D H_133 mm ra sa ka ta nh ik t.length th sp9 iw le9 fi9 se9 g gs S gap ((hl2.map Prod.snd)) z1 z2 h_139 h_140 h_141 (by first | assumption | omega) (by first | assumption | omega) (by first | assumption | omega) n_mm_ra n_mm_sa n_ra_sa b_mm b_ra b_sa (by first | assumption | omega) (by first | assumption | omega) (by rw [rb1 hA]; decide) (by rw [rb1 hA]; decide)) (cwV 2 hts (lw_V q2282 q2283 q2284 q89 q2285) rfl rfl rfl (by decide +kernel) ⟨Nat.le_of_ble_eq_true rfl, Nat.le_of_ble_eq_true rfl⟩) (kx_pv hK hS_131 hB (kx_rc hK h_139 (C := RX3) (T := TX3) (N := 13) rfl)) rfl rfl hl.1 rfl (lv_room (Nat.le_of_ble_eq_true rfl)) dL_law_268 ⟨by first | exact Nat.le_of_ble_eq_true rfl | omega | (dsimp only [lwR]; omega) | (show _ ≤ _; omega), by first | exact Nat.le_of_ble_eq_true rfl | omega | (dsimp only [lwR]; omega) | (show _ ≤ _; omega)⟩) hS_131 (fun q _ h => (ge_mm q) h) (fun q h => (ge_mm q) h) (fun z_149 H_147 locs_144 hz_146 hF_148 hS_145 => ?_)
    have hzf_150 := hF_148.1
    obtain ⟨hv_151, ho_152⟩ := hz_146
    subst z_149
    refine lv_istore (lv' := [(7, .int (kI (0))), (6, .int (kI (1))), (0, .ref b), (1, .ref x1), (2, .ref mm), (3, .ref out), (4, .ref outD), (5, .int (kI ((3 * j : Nat) : Int)))]) hx hb dL_law_271 hl (by decide) rfl (fun ls hl => ?_)
    refine lv_aload_n hx hb dL_law_273 rfl (lv_at hl 4 rfl) ?_
    refine kx_ci0 (va_runV (As := []) (rest := []) ⟨hx, hb, hml, hown, hts⟩ (m_X3_thrown l D H_147 mm ra sa ka ta nh ik t.length (ref_b S z1 z2) sp9 iw le9 fi9 se9 ho_152 ) (cwV 0 hts (lw_V q2278 q2279 q2280 q89 q2281) rfl rfl rfl (by decide +kernel) ⟨Nat.le_of_ble_eq_true rfl, Nat.le_of_ble_eq_true rfl⟩) (kx_pv hK hS_145 hB (kx_rc hK ho_152 (C := RX3) (T := TX3) (N := 13) rfl)) rfl rfl hl.1 rfl (lv_room (Nat.le_of_ble_eq_true rfl)) dL_law_274 ⟨by first | exact Nat.le_of_ble_eq_true rfl | omega | (dsimp only [lwR]; omega) | (show _ ≤ _; omega), by first | exact Nat.le_of_ble_eq_true rfl | omega | (dsimp only [lwR]; omega) | (show _ ≤ _; omega)⟩) hS_145 (fun z_156 locs_153 hz_155 hS_154 => ?_)
    subst z_156
    refine kx_eqi (1) (rb1 hA) ?_
    refine lv_iload hx hb dL_law_277 (lv_at hl 1 rfl) ?_
    refine kx_icmp_eq (x := 1) (y := 1) (tgt := 284) hx hb dL_law_279 (by decide) (by omega) (by omega) (by omega) (by omega) (fun c_279_157 => ?_) (fun c_279_157 => ?_)
    · -- taken at 279
      refine lv_iload hx hb dL_law_284 (lv_at hl 1 rfl) ?_
      refine kx_if_ne (x := 1) (tgt := 301) hx hb dL_law_286 (by decide) (by omega) (by omega) (fun c_286_158 => ?_) (fun c_286_158 => ?_)
      · -- taken at 286
        refine lv_goto (tgt := 2493) hx hb dL_law_301 (by decide) ?_
        have h_159 := h_140.fr hF_148 (n_mm_ra.sm)
        have h_160 := h_141.fr hF_148 (n_mm_sa.sm)
        have h_161 := h_142.fr hF_148 (n_mm_ka.sm)
        have h_162 := h_143.fr hF_148 (n_mm_ta.sm)
        have h_163 := hA_out.ex hF_134
        have h_164 := h_163.fr hF_148 (n_mm_out.sm)
        have h_165 := hA_outD.ex hF_134
        have h_166 := h_165.fr hF_148 (n_mm_outD.sm)
        have h_167 := hW.ex hd9 hF_134
        have h_168 := h_167.fr hd9 hF_148 (fun x => (ty_mm x))
        refine W.widen (k := cells + 50000) (n := slots + 228000) (by omega) (by omega) ?_
        have hM9 : kM D H_147 c0 out mm (S, gap) ((sl.map Prod.snd).head?) (hl2.map Prod.snd) t := ⟨ra, sa, ka, ta, _, _, _, _, _, _, _, _, _, _, _, _, ho_152, h_159, h_160, h_161, h_162, hMr, hMh, hMk, hMt, ht60, hMd, hMb, hMi⟩
        exact kk (S, gap) ((sl.map Prod.snd).head?) (hl2.map Prod.snd) t _ _ _ ⟨hS_154, lv_sub hl [2, 3, 4, 5, 6, 7] rfl, h_168, hM9, ⟨_, h_164⟩, ⟨_, h_166⟩, by omega, by omega⟩
      · -- not taken at 286
        exfalso; omega
    · -- not taken at 279
      exfalso; omega

set_option maxHeartbeats 8000000 in
set_option maxRecDepth 100000 in
theorem lc_step {p : Program} {e : Env} {s : State} {m : MethodId} {below : List Frame} {meth : Method} {c : Code} {l : Launch} {D : kG} {b L c0 c1 x1 mm out outD : Nat} {xs : Nat → Int32} {Q : State → Prop} (C0 : lwC D p l s m meth c b L c0 c1 out outD xs) {j : Nat} (hj : 3 * j + 3 ≤ L) {S : Ls} {gap : Int} {sn : Option Sg} {hs : List Sg} {t : List Int} {H : Heap} {locs : List Loc} {ls : Array Slot} (I0 : lwI D s b c0 c1 x1 mm out outD j j (S, gap) sn hs t H locs ls) {cells slots : Nat} (hcl : cells + 50000 ≤ 1200144) (hsl9 : slots + 228000 ≤ 5496058) (kk : ∀ (σ : Sg) (sn : Option Sg) (hs : List Sg) (t : List Int) (H : Heap) (locs : List Loc) (ls : Array Slot), lwI D s b c0 c1 x1 mm out outD j (j + 1) σ sn hs t H locs ls → W p l e lwR s m #[Value.ref b] below meth c H locs (cells + 50000) (slots + 228000) Q (F0 m 2493 ls [])) : W p l e lwR s m #[Value.ref b] below meth c H locs cells slots Q (F0 m 304 ls []) := by
  obtain ⟨hx, hb, hml, hown, hts, hlk, hK, hl9, hX, hbl, hbs, hL72, hc0, hco, hod, hdc⟩ := C0
  obtain ⟨hS, hl, hW, hM, ⟨go, hA_out⟩, ⟨gd, hA_outD⟩, hc1, htl⟩ := I0
  have hB : ∀ q, (kNW s.heap) q → kBase D ≤ q := fun q h => Nat.le_trans hK.size h
  have hbA : ¬ (kNW s.heap) b := fun h => by have h9 : s.heap.size ≤ b := h; omega
  have hd9 := hK.dis
  have hxE : ¬ kBase D ≤ D.2.2.2 2 := hK.tE.out
  obtain ⟨z1, hz1⟩ : ∃ z, z = (xs (3 * j + 1)).toInt := ⟨_, rfl⟩
  obtain ⟨z2, hz2⟩ : ∃ z, z = (xs (3 * j + 2)).toInt := ⟨_, rfl⟩
  have hr1 : -2147483648 ≤ z1 ∧ z1 ≤ 2147483647 := by rw [hz1]; exact i32r _
  have hr2 : -2147483648 ≤ z2 ∧ z2 ≤ 2147483647 := by rw [hz2]; exact i32r _
  obtain ⟨⟨st, la, ea, F⟩, sl, hl2, hi, es, bu, vb, hO_x1, hDq, hTx, hX5, hev, hAl, hDj, hPw, hsl, hsn, hhs⟩ := id hW
  subst hsn
  subst hhs
  obtain ⟨ra, sa, ka, ta, nh, ik, th, sp9, iw, le9, fi9, se9, g, gs, gk, gt, hO_mm, hA_ra, hA_sa, hA_ka, hA_ta, hMr, hMh, hMk, hMt, ht60, hMd, hMb, hMi⟩ := id hM
  have hMr : MRow g S gap := hMr
  have h0 := hAl _ List.mem_cons_self
  have hP_kState_st : kState D H st la ea gap S F := h0.1
  have hok : LsOK S gap := h0.2.1
  have hG : StG S := h0.2.2.1
  have hL8 : S.length ≤ 8 := hok.1
  have hgp := hok.2.1
  have hO_x1 : kO D H x1 0 [.ref st, va_rf ((sl.map (fun a => a.1.1)).head?), .ref hi, .ref bu] := hO_x1
  have hOw : ∀ q, kOwn D st la ea F S.length q → q ∉ [x1, hi, es, bu, vb] ∧ (q < c0 ∨ c1 ≤ q) := h0.2.2.2
  have hev : Hd (es ≠ vb) := hev
  have io_x1 : ∀ x, c0 ≤ x → x < c1 → x ≠ x1 := fun x => out_of (hX5 x1 (by simp)).2
  have io_hi : ∀ x, c0 ≤ x → x < c1 → x ≠ hi := fun x => out_of (hX5 hi (by simp)).2
  have io_es : ∀ x, c0 ≤ x → x < c1 → x ≠ es := fun x => out_of (hX5 es (by simp)).2
  have io_bu : ∀ x, c0 ≤ x → x < c1 → x ≠ bu := fun x => out_of (hX5 bu (by simp)).2
  have io_vb : ∀ x, c0 ≤ x → x < c1 → x ≠ vb := fun x => out_of (hX5 vb (by simp)).2
  have b_x1 := (hX5 x1 (by simp)).1
  have b_hi := (hX5 hi (by simp)).1
  have b_es := (hX5 es (by simp)).1
  have b_bu := (hX5 bu (by simp)).1
  have b_vb := (hX5 vb (by simp)).1
  obtain ⟨⟨⟨n1, n2, n3, n4⟩, n5, n6, n7⟩, n8, n9, n10⟩ := hMd
  have n_mm_ra : Hd (mm ≠ ra) := n1
  have n_mm_sa : Hd (mm ≠ sa) := n2
  have n_mm_ka : Hd (mm ≠ ka) := n3
  have n_mm_ta : Hd (mm ≠ ta) := n4
  have n_ra_sa : Hd (ra ≠ sa) := n5
  have n_ra_ka : Hd (ra ≠ ka) := n6
  have n_ra_ta : Hd (ra ≠ ta) := n7
  have n_sa_ka : Hd (sa ≠ ka) := n8
  have n_sa_ta : Hd (sa ≠ ta) := n9
  have n_ka_ta : Hd (ka ≠ ta) := n10
  have hMd : Hd (((mm ≠ ra ∧ mm ≠ sa ∧ mm ≠ ka ∧ mm ≠ ta) ∧ ra ≠ sa ∧ ra ≠ ka ∧ ra ≠ ta) ∧ sa ≠ ka ∧ sa ≠ ta ∧ ka ≠ ta) := ⟨⟨⟨n1, n2, n3, n4⟩, n5, n6, n7⟩, n8, n9, n10⟩
  clear n1 n2 n3 n4 n5 n6 n7 n8 n9 n10
  obtain ⟨b_mm, b_ra, b_sa, b_ka, b_ta⟩ := id hMb
  obtain ⟨i_mm, i_ra, i_sa, i_ka, i_ta⟩ := id hMi
  have b_out : kBase D ≤ out := by omega
  have hcc : c0 ≤ c1 := by omega
  have w_mm : mm < c1 := by omega
  have n_mm_out : Hd (mm ≠ out) := Nat.ne_of_lt i_mm.2
  have n_mm_outD : Hd (mm ≠ outD) := Nat.ne_of_lt (Nat.lt_trans i_mm.2 hod)
  have w_ra : ra < c1 := by omega
  have n_ra_out : Hd (ra ≠ out) := Nat.ne_of_lt i_ra.2
  have n_ra_outD : Hd (ra ≠ outD) := Nat.ne_of_lt (Nat.lt_trans i_ra.2 hod)
  have w_sa : sa < c1 := by omega
  have n_sa_out : Hd (sa ≠ out) := Nat.ne_of_lt i_sa.2
  have n_sa_outD : Hd (sa ≠ outD) := Nat.ne_of_lt (Nat.lt_trans i_sa.2 hod)
  have w_ka : ka < c1 := by omega
  have n_ka_out : Hd (ka ≠ out) := Nat.ne_of_lt i_ka.2
  have n_ka_outD : Hd (ka ≠ outD) := Nat.ne_of_lt (Nat.lt_trans i_ka.2 hod)
  have w_ta : ta < c1 := by omega
  have n_ta_out : Hd (ta ≠ out) := Nat.ne_of_lt i_ta.2
  have n_ta_outD : Hd (ta ≠ outD) := Nat.ne_of_lt (Nat.lt_trans i_ta.2 hod)
  have ge_mm : ∀ q, q = mm → kNW s.heap q := fun q h => by rw [h]; show s.heap.size ≤ mm; omega
  have ge_ra : ∀ q, q = ra → kNW s.heap q := fun q h => by rw [h]; show s.heap.size ≤ ra; omega
  have ge_sa : ∀ q, q = sa → kNW s.heap q := fun q h => by rw [h]; show s.heap.size ≤ sa; omega
  have ge_ka : ∀ q, q = ka → kNW s.heap q := fun q h => by rw [h]; show s.heap.size ≤ ka; omega
  have ge_ta : ∀ q, q = ta → kNW s.heap q := fun q h => by rw [h]; show s.heap.size ≤ ta; omega
  have ge_out : ∀ q, q = out → kNW s.heap q := fun q h => by rw [h]; show s.heap.size ≤ out; omega
  have n_out_outD : Hd (out ≠ outD) := Nat.ne_of_lt hod
  have w_out : out < c1 := by omega
  have w_outD : outD < c1 := hdc
  have i_outD : c0 ≤ outD := by omega
  have htyo : kTy D H out := Or.inr ⟨2, _, by decide, hA_out⟩
  have htyd : kTy D H outD := Or.inr ⟨3, _, by decide, hA_outD⟩
  have to_out : ∀ x, x = out → H.size ≤ x ∨ (kTy D H x ∧ c0 ≤ x ∧ x < c1) := fun x h => by rw [h]; exact Or.inr ⟨htyo, hco, w_out⟩
  have to_outD : ∀ x, x = outD → H.size ≤ x ∨ (kTy D H x ∧ c0 ≤ x ∧ x < c1) := fun x h => by rw [h]; exact Or.inr ⟨htyd, i_outD, w_outD⟩
  obtain ⟨⟨hO_st, mc9, hO_la⟩, hLs9, hLn9, hF9, hDs9, hb1, hb2, hb3⟩ := id hP_kState_st
  have hnx : ∀ q, kOwn D st la ea F S.length q → q ≠ hi ∧ q ≠ es ∧ q ≠ x1 := fun q hq => by
    have h9 := (hOw q hq).1
    simp only [List.mem_cons, List.not_mem_nil, or_false, not_or] at h9
    exact ⟨h9.2.1, h9.2.2.1, h9.1⟩
  have hnO9 : ∀ q, kOwn D st la ea F S.length q → q ≠ out := fun q hq => (out_of (hOw q hq).2 hco w_out).symm
  have nex : Hd (x1 ≠ hi ∧ x1 ≠ es) := by
    obtain ⟨_, _, _, y1, y2, _⟩ := hDq
    exact ⟨(kO_ne hd9 y1 hO_x1 (by decide) (by decide) (by decide)).symm, kOA_ne hd9 hO_x1 y2 (by decide) (by decide)⟩
  have neo : Hd (hi ≠ out ∧ es ≠ out ∧ x1 ≠ out) := ⟨(io_hi out hco w_out).symm, (io_es out hco w_out).symm, (io_x1 out hco w_out).symm⟩
  by_cases hA : 0 ≤ z1 ∧ z1 < (S.length : Int)
  · -- hA
    obtain ⟨ln9, hv1⟩ : ∃ k : Nat, z1 = (k : Int) := ⟨z1.toNat, by omega⟩
    have hln : ln9 < S.length := by omega
    have hLn := hok.ln hln
    by_cases hA2 : 0 ≤ z2 ∧ z2 ≤ 7
    · -- hA2
      by_cases hA3 : st_whyNot S ln9 z2 = 0
      · -- hA3
        have hsn9 := stp_n hok hln hA2 hA3
        refine lv_aload_n hx hb dL_law_304 rfl (lv_at hl 1 rfl) ?_
        refine lv_aload_n hx hb dL_law_305 rfl (lv_at hl 0 rfl) ?_
        refine lv_iload hx hb dL_law_306 (lv_at hl 5 rfl) ?_
        refine kx_iconst hx hb dL_law_308 ?_
        refine kx_iadd hx hb dL_law_309 ?_
        refine kx_sld (i := (((3 * j : Nat) : Int) + 1)) hx hb hX hbl hbA hS (3 * j + 1) (by omega) (by omega) (by omega) dL_law_310 ?_
        refine kx_eqi (((ln9 : Nat) : Int)) (hz1.symm.trans hv1) ?_
        refine lv_aload_n hx hb dL_law_311 rfl (lv_at hl 0 rfl) ?_
        refine lv_iload hx hb dL_law_312 (lv_at hl 5 rfl) ?_
        refine kx_iconst hx hb dL_law_314 ?_
        refine kx_iadd hx hb dL_law_315 ?_
        refine kx_sld (i := (((3 * j : Nat) : Int) + 2)) hx hb hX hbl hbA hS (3 * j + 2) (by omega) (by omega) (by omega) dL_law_316 ?_
        refine kx_eqi (z2) (hz2.symm) ?_
        refine lv_aload_n hx hb dL_law_317 rfl (lv_at hl 3 rfl) ?_
        refine kx_ci (vx_runSW (As := [.ref x1, .int (kI ((ln9 : Nat) : Int)), .int (kI (z2)), .ref out]) (rest := []) ⟨hx, hb, hml, hown, hts⟩ (wr_step l hl9 D H x1 ((sl.map (fun a => a.1.1)).head?) hi bu es ((hl2.map (fun a => a.1.1))) st la ea F S gap ln9 z2 out go hO_x1 hP_kState_st hDq hA_out (by first | assumption | omega) (by first | assumption | omega) (by first | assumption | omega) (by first | assumption | omega) nex (by first | assumption | omega) (by first | assumption | omega) (by first | assumption | omega) (by first | assumption | omega) (by first | assumption | omega) (by first | assumption | omega) neo) (vx_cwSW 4 hts (lw_SW q1853 q1854 q78 q1855) rfl rfl rfl (by decide +kernel) ⟨Nat.le_of_ble_eq_true rfl, Nat.le_of_ble_eq_true rfl⟩) (kx_ps hK hS hB) rfl rfl hl.1 rfl (lv_room (Nat.le_of_ble_eq_true rfl)) dL_law_318 ⟨by first | exact Nat.le_of_ble_eq_true rfl | omega | (dsimp only [lwR]; omega) | (show _ ≤ _; omega), by first | exact Nat.le_of_ble_eq_true rfl | omega | (dsimp only [lwR]; omega) | (show _ ≤ _; omega)⟩) hS (fun q _ h => (fun h => Or.elim h (ge_out q) (fun h => Or.elim h (fun h => by have h8 := hP_kState_st.ownge h; show s.heap.size ≤ q; omega) (fun h => Or.elim h (fun h => by rw [h]; show s.heap.size ≤ hi; omega) (fun h => Or.elim h (fun h => by rw [h]; show s.heap.size ≤ es; omega) (fun h => Nat.le_trans hS.1 h))))) h) (fun q h => (fun h => Or.elim h (ge_out q) (fun h => Or.elim h (fun h => by have h8 := hP_kState_st.ownge h; show s.heap.size ≤ q; omega) (fun h => Or.elim h (fun h => by rw [h]; show s.heap.size ≤ hi; omega) (fun h => Or.elim h (fun h => by rw [h]; show s.heap.size ≤ es; omega) (fun h => Nat.le_trans hS.1 h))))) h) (fun z_6 H_4 locs_1 hz_3 hF_5 hS_2 => ?_)
        have hzf_7 := hF_5.1
        obtain ⟨crw, la2w, ea2w, F2w, ea3w, F3w, hv_14, ho_15, ho_16, ho_17, ho_18, ho_19, hw1, hw2, hw3⟩ := hz_3
        subst z_6
        have hW9 : kW D H_4 c0 c1 x1 (S.set ln9 (w_step (st_ln S ln9) z2), gap) ((sl.map Prod.snd).head?) (pushH (hl2.map Prod.snd) (S, gap)) t := kW.change (out := out) hd9 hxE hO_x1 hDq hTx hX5 hev hAl hDj hPw hsl hF_5 htyo ⟨hco, w_out⟩ hc1 ho_15 ho_16 ho_17 ho_18 hw1 hw2 hw3 (hok.stp hln hA2 hA3) (hG.step hok hln hA2 hA3)
        refine lv_istore (lv' := [(6, .int (kI (0))), (0, .ref b), (1, .ref x1), (2, .ref mm), (3, .ref out), (4, .ref outD), (5, .int (kI ((3 * j : Nat) : Int)))]) hx hb dL_law_321 hl (by decide) rfl (fun ls hl => ?_)
        refine lv_aload_n hx hb dL_law_323 rfl (lv_at hl 3 rfl) ?_
        refine lv_aload_n hx hb dL_law_324 rfl (lv_at hl 1 rfl) ?_
        refine lv_iload hx hb dL_law_325 (lv_at hl 6 rfl) ?_
        refine kx_iconst hx hb dL_law_327 ?_
        refine kx_iadd hx hb dL_law_328 ?_
        refine kx_sld (i := (((3 * j : Nat) : Int) + 1)) hx hb hX hbl hbA hS_2 (3 * j + 1) (by omega) (by omega) (by omega) dL_law_329 ?_
        refine kx_eqi (((ln9 : Nat) : Int)) (hz1.symm.trans hv1) ?_
        refine lv_aload_n hx hb dL_law_330 rfl (lv_at hl 1 rfl) ?_
        refine lv_iload hx hb dL_law_331 (lv_at hl 6 rfl) ?_
        refine kx_iconst hx hb dL_law_333 ?_
        refine kx_iadd hx hb dL_law_334 ?_
        refine kx_sld (i := (((3 * j : Nat) : Int) + 2)) hx hb hX hbl hbA hS_2 (3 * j + 2) (by omega) (by omega) (by omega) dL_law_335 ?_
        refine kx_eqi (z2) (hz2.symm) ?_
        have h_20 := hO_mm.fr hF_5 (fun h => Or.elim h (n_mm_out) (fun h => Or.elim h (fun h => out_of (hOw _ h).2 i_mm.1 w_mm rfl) (fun h => Or.elim h (io_hi _ i_mm.1 w_mm) (fun h => Or.elim h (io_es _ i_mm.1 w_mm) (fun h => Nat.not_le_of_gt hO_mm.lt h)))))
        have h_21 := hA_ra.fr hF_5 (fun h => Or.elim h (n_ra_out) (fun h => Or.elim h (fun h => out_of (hOw _ h).2 i_ra.1 w_ra rfl) (fun h => Or.elim h (io_hi _ i_ra.1 w_ra) (fun h => Or.elim h (io_es _ i_ra.1 w_ra) (fun h => Nat.not_le_of_gt hA_ra.lt h)))))
        have h_22 := hA_sa.fr hF_5 (fun h => Or.elim h (n_sa_out) (fun h => Or.elim h (fun h => out_of (hOw _ h).2 i_sa.1 w_sa rfl) (fun h => Or.elim h (io_hi _ i_sa.1 w_sa) (fun h => Or.elim h (io_es _ i_sa.1 w_sa) (fun h => Nat.not_le_of_gt hA_sa.lt h)))))
        have h_23 := hA_ka.fr hF_5 (fun h => Or.elim h (n_ka_out) (fun h => Or.elim h (fun h => out_of (hOw _ h).2 i_ka.1 w_ka rfl) (fun h => Or.elim h (io_hi _ i_ka.1 w_ka) (fun h => Or.elim h (io_es _ i_ka.1 w_ka) (fun h => Nat.not_le_of_gt hA_ka.lt h)))))
        have h_24 := hA_ta.fr hF_5 (fun h => Or.elim h (n_ta_out) (fun h => Or.elim h (fun h => out_of (hOw _ h).2 i_ta.1 w_ta rfl) (fun h => Or.elim h (io_hi _ i_ta.1 w_ta) (fun h => Or.elim h (io_es _ i_ta.1 w_ta) (fun h => Nat.not_le_of_gt hA_ta.lt h)))))
        have ty_mm : ∀ x, x = mm → H_4.size ≤ x ∨ (kTy D H_4 x ∧ c0 ≤ x ∧ x < c1) := fun x h => by rw [h]; exact Or.inr ⟨Or.inl ⟨2, _, by decide, by decide, by decide, h_20⟩, i_mm.1, w_mm⟩
        have ty_ra : ∀ x, x = ra → H_4.size ≤ x ∨ (kTy D H_4 x ∧ c0 ≤ x ∧ x < c1) := fun x h => by rw [h]; exact Or.inr ⟨Or.inr ⟨0, _, by decide, h_21⟩, i_ra.1, w_ra⟩
        have ty_sa : ∀ x, x = sa → H_4.size ≤ x ∨ (kTy D H_4 x ∧ c0 ≤ x ∧ x < c1) := fun x h => by rw [h]; exact Or.inr ⟨Or.inr ⟨0, _, by decide, h_22⟩, i_sa.1, w_sa⟩
        refine kx_cb (va_runV (As := [.int (kI ((ln9 : Nat) : Int)), .int (kI (z2))]) (rest := []) ⟨hx, hb, hml, hown, hts⟩ (m_X3_step l D H_4 mm ra sa ka ta nh ik t.length th sp9 iw le9 fi9 se9 g gs S gap ((hl2.map Prod.snd)) ln9 z2 h_20 h_21 h_22 (by first | assumption | omega) (by first | assumption | omega) (by first | assumption | omega) n_mm_ra n_mm_sa n_ra_sa b_mm b_ra b_sa (by first | assumption | omega) (by first | assumption | omega) hsn9.1 (by first | assumption | omega) hsn9.2 (rs0 hln hA2 hA3)) (cwV 2 hts (lw_V q2411 q2412 q2413 q89 q2414) rfl rfl rfl (by decide +kernel) ⟨Nat.le_of_ble_eq_true rfl, Nat.le_of_ble_eq_true rfl⟩) (kx_pv hK hS_2 hB (kx_rc hK h_20 (C := RX3) (T := TX3) (N := 13) rfl)) rfl rfl hl.1 rfl (lv_room (Nat.le_of_ble_eq_true rfl)) dL_law_336 ⟨by first | exact Nat.le_of_ble_eq_true rfl | omega | (dsimp only [lwR]; omega) | (show _ ≤ _; omega), by first | exact Nat.le_of_ble_eq_true rfl | omega | (dsimp only [lwR]; omega) | (show _ ≤ _; omega)⟩) hS_2 (fun q _ h => (fun h => Or.elim h (ge_mm q) (fun h => Or.elim h (ge_ra q) (ge_sa q))) h) (fun q h => (fun h => Or.elim h (ge_mm q) (fun h => Or.elim h (ge_ra q) (ge_sa q))) h) (fun z_30 H_28 locs_25 hz_27 hF_29 hS_26 => ?_)
        have hzf_31 := hF_29.1
        obtain ⟨g2_32, gs2_33, sn2_34, hv_35, ho_36, ho_37, ho_38, hM29, hH29⟩ := hz_27
        subst z_30
        refine lv_istore (lv' := [(7, .int (kI (kb (ln_cl (w_step (st_ln S ln9) z2))))), (6, .int (kI (0))), (0, .ref b), (1, .ref x1), (2, .ref mm), (3, .ref out), (4, .ref outD), (5, .int (kI ((3 * j : Nat) : Int)))]) hx hb dL_law_339 hl (by decide) rfl (fun ls hl => ?_)
        refine lv_aload_n hx hb dL_law_341 rfl (lv_at hl 4 rfl) ?_
        refine kx_ci0 (va_runV (As := []) (rest := []) ⟨hx, hb, hml, hown, hts⟩ (m_X3_thrown l D H_28 mm ra sa ka ta sn2_34 ik t.length 0 sp9 iw le9 fi9 se9 ho_36 ) (cwV 0 hts (lw_V q2278 q2279 q2280 q89 q2281) rfl rfl rfl (by decide +kernel) ⟨Nat.le_of_ble_eq_true rfl, Nat.le_of_ble_eq_true rfl⟩) (kx_pv hK hS_26 hB (kx_rc hK ho_36 (C := RX3) (T := TX3) (N := 13) rfl)) rfl rfl hl.1 rfl (lv_room (Nat.le_of_ble_eq_true rfl)) dL_law_342 ⟨by first | exact Nat.le_of_ble_eq_true rfl | omega | (dsimp only [lwR]; omega) | (show _ ≤ _; omega), by first | exact Nat.le_of_ble_eq_true rfl | omega | (dsimp only [lwR]; omega) | (show _ ≤ _; omega)⟩) hS_26 (fun z_42 locs_39 hz_41 hS_40 => ?_)
        subst z_42
        refine lv_iload hx hb dL_law_345 (lv_at hl 1 rfl) ?_
        refine kx_icmp_eq (x := 0) (y := 0) (tgt := 352) hx hb dL_law_347 (by decide) (by omega) (by omega) (by omega) (by omega) (fun c_347_43 => ?_) (fun c_347_43 => ?_)
        · -- taken at 347
          refine lv_iload hx hb dL_law_352 (lv_at hl 1 rfl) ?_
          refine kx_if_ne (x := 0) (tgt := 376) hx hb dL_law_354 (by decide) (by omega) (by omega) (fun c_354_44 => ?_) (fun c_354_44 => ?_)
          · -- taken at 354
            exfalso; omega
          · -- not taken at 354
            refine lv_aload_n hx hb dL_law_357 rfl (lv_at hl 5 rfl) ?_
            refine kx_iconst hx hb dL_law_358 ?_
            have h_45 := ho_19.fr hF_29 (fun h => Or.elim h (n_mm_out.sm) (fun h => Or.elim h (n_ra_out.sm) (n_sa_out.sm)))
            refine kx_lald (i := 0) hx hb hK h_45 0 rfl (by decide) (by decide) dL_law_359 ?_
            refine lv_iload hx hb dL_law_360 (lv_at hl 0 rfl) ?_
            refine kx_ifz (tgt := 369) hx hb dL_law_362 (by decide) (fun cb9 => ?_) (fun cb9 => ?_)
            · -- taken at 362
              refine kx_lconst0 hx hb dL_law_369 ?_
              refine kx_lcmpE hx hb (x := ((kup go 0 (kL (kb (ln_cl (w_step (st_ln S ln9) z2)))))) 0) (y := kL (0)) ((kup_self _ _ _).trans (by first | rfl | (rw [cb9]; rfl))) dL_law_370 ?_
              refine kx_if_eq (x := 0) (tgt := 376) hx hb dL_law_371 (by decide) (by omega) (by omega) (fun c_371_46 => ?_) (fun c_371_46 => ?_)
              · -- taken at 371
                refine lv_goto (tgt := 2493) hx hb dL_law_376 (by decide) ?_
                have h_47 := h_23.fr hF_29 (fun h => Or.elim h (n_mm_ka.sm) (fun h => Or.elim h (n_ra_ka.sm) (n_sa_ka.sm)))
                have h_48 := h_24.fr hF_29 (fun h => Or.elim h (n_mm_ta.sm) (fun h => Or.elim h (n_ra_ta.sm) (n_sa_ta.sm)))
                have h_49 := hA_outD.fr hF_5 (fun h => Or.elim h (n_out_outD.sm) (fun h => Or.elim h (fun h => out_of (hOw _ h).2 i_outD w_outD rfl) (fun h => Or.elim h (io_hi _ i_outD w_outD) (fun h => Or.elim h (io_es _ i_outD w_outD) (fun h => Nat.not_le_of_gt hA_outD.lt h)))))
                have h_50 := h_49.fr hF_29 (fun h => Or.elim h (n_mm_outD.sm) (fun h => Or.elim h (n_ra_outD.sm) (n_sa_outD.sm)))
                have h_51 := hW9.fr hd9 hF_29 (fun x => (fun h => Or.elim h (ty_mm x) (fun h => Or.elim h (ty_ra x) (ty_sa x))))
                refine W.widen (k := cells + 50000) (n := slots + 228000) (by omega) (by omega) ?_
                have hM9 : kM D H_28 c0 out mm (S.set ln9 (w_step (st_ln S ln9) z2), gap) ((sl.map Prod.snd).head?) (pushH (hl2.map Prod.snd) (S, gap)) t := ⟨ra, sa, ka, ta, _, _, _, _, _, _, _, _, _, _, _, _, ho_36, ho_37, ho_38, h_47, h_48, hM29, hH29, hMk, hMt, ht60, hMd, hMb, hMi⟩
                exact kk (S.set ln9 (w_step (st_ln S ln9) z2), gap) ((sl.map Prod.snd).head?) (pushH (hl2.map Prod.snd) (S, gap)) t _ _ _ ⟨hS_40, lv_sub hl [2, 3, 4, 5, 6, 7] rfl, h_51, hM9, ⟨_, h_45⟩, ⟨_, h_50⟩, by omega, by omega⟩
              · -- not taken at 371
                exfalso; omega
            · -- not taken at 362
              refine kx_lconst1 hx hb dL_law_365 ?_
              refine lv_goto (tgt := 370) hx hb dL_law_366 (by decide) ?_
              refine kx_lcmpE hx hb (x := ((kup go 0 (kL (kb (ln_cl (w_step (st_ln S ln9) z2)))))) 0) (y := kL (1)) ((kup_self _ _ _).trans (by first | rfl | (rw [cb9]; rfl))) dL_law_370 ?_
              refine kx_if_eq (x := 0) (tgt := 376) hx hb dL_law_371 (by decide) (by omega) (by omega) (fun c_371_52 => ?_) (fun c_371_52 => ?_)
              · -- taken at 371
                refine lv_goto (tgt := 2493) hx hb dL_law_376 (by decide) ?_
                have h_53 := h_23.fr hF_29 (fun h => Or.elim h (n_mm_ka.sm) (fun h => Or.elim h (n_ra_ka.sm) (n_sa_ka.sm)))
                have h_54 := h_24.fr hF_29 (fun h => Or.elim h (n_mm_ta.sm) (fun h => Or.elim h (n_ra_ta.sm) (n_sa_ta.sm)))
                have h_55 := hA_outD.fr hF_5 (fun h => Or.elim h (n_out_outD.sm) (fun h => Or.elim h (fun h => out_of (hOw _ h).2 i_outD w_outD rfl) (fun h => Or.elim h (io_hi _ i_outD w_outD) (fun h => Or.elim h (io_es _ i_outD w_outD) (fun h => Nat.not_le_of_gt hA_outD.lt h)))))
                have h_56 := h_55.fr hF_29 (fun h => Or.elim h (n_mm_outD.sm) (fun h => Or.elim h (n_ra_outD.sm) (n_sa_outD.sm)))
                have h_57 := hW9.fr hd9 hF_29 (fun x => (fun h => Or.elim h (ty_mm x) (fun h => Or.elim h (ty_ra x) (ty_sa x))))
                refine W.widen (k := cells + 50000) (n := slots + 228000) (by omega) (by omega) ?_
                have hM9 : kM D H_28 c0 out mm (S.set ln9 (w_step (st_ln S ln9) z2), gap) ((sl.map Prod.snd).head?) (pushH (hl2.map Prod.snd) (S, gap)) t := ⟨ra, sa, ka, ta, _, _, _, _, _, _, _, _, _, _, _, _, ho_36, ho_37, ho_38, h_53, h_54, hM29, hH29, hMk, hMt, ht60, hMd, hMb, hMi⟩
                exact kk (S.set ln9 (w_step (st_ln S ln9) z2), gap) ((sl.map Prod.snd).head?) (pushH (hl2.map Prod.snd) (S, gap)) t _ _ _ ⟨hS_40, lv_sub hl [2, 3, 4, 5, 6, 7] rfl, h_57, hM9, ⟨_, h_45⟩, ⟨_, h_56⟩, by omega, by omega⟩
              · -- not taken at 371
                exfalso; omega
        · -- not taken at 347
          exfalso; omega
      · -- hA3
        refine lv_aload_n hx hb dL_law_304 rfl (lv_at hl 1 rfl) ?_
        refine lv_aload_n hx hb dL_law_305 rfl (lv_at hl 0 rfl) ?_
        refine lv_iload hx hb dL_law_306 (lv_at hl 5 rfl) ?_
        refine kx_iconst hx hb dL_law_308 ?_
        refine kx_iadd hx hb dL_law_309 ?_
        refine kx_sld (i := (((3 * j : Nat) : Int) + 1)) hx hb hX hbl hbA hS (3 * j + 1) (by omega) (by omega) (by omega) dL_law_310 ?_
        refine kx_eqi (((ln9 : Nat) : Int)) (hz1.symm.trans hv1) ?_
        refine lv_aload_n hx hb dL_law_311 rfl (lv_at hl 0 rfl) ?_
        refine lv_iload hx hb dL_law_312 (lv_at hl 5 rfl) ?_
        refine kx_iconst hx hb dL_law_314 ?_
        refine kx_iadd hx hb dL_law_315 ?_
        refine kx_sld (i := (((3 * j : Nat) : Int) + 2)) hx hb hX hbl hbA hS (3 * j + 2) (by omega) (by omega) (by omega) dL_law_316 ?_
        refine kx_eqi (z2) (hz2.symm) ?_
        refine lv_aload_n hx hb dL_law_317 rfl (lv_at hl 3 rfl) ?_
        refine kx_ci (vx_runSW (As := [.ref x1, .int (kI ((ln9 : Nat) : Int)), .int (kI (z2)), .ref out]) (rest := []) ⟨hx, hb, hml, hown, hts⟩ (wx_step_3 l hl9 D H x1 ((sl.map (fun a => a.1.1)).head?) hi bu st la mc9 ea F S gap ln9 z2 out hO_x1 hO_st hO_la hLs9 hLn9 (by first | assumption | omega) (by first | assumption | omega) (by first | assumption | omega) (by first | assumption | omega)) (vx_cwSW 4 hts (lw_SW q1853 q1854 q78 q1855) rfl rfl rfl (by decide +kernel) ⟨Nat.le_of_ble_eq_true rfl, Nat.le_of_ble_eq_true rfl⟩) (kx_ps hK hS hB) rfl rfl hl.1 rfl (lv_room (Nat.le_of_ble_eq_true rfl)) dL_law_318 ⟨by first | exact Nat.le_of_ble_eq_true rfl | omega | (dsimp only [lwR]; omega) | (show _ ≤ _; omega), by first | exact Nat.le_of_ble_eq_true rfl | omega | (dsimp only [lwR]; omega) | (show _ ≤ _; omega)⟩) hS (fun q _ h => by have h9 := hS.1; (try dsimp only at h); (try dsimp only); (try simp only [kNW] at h); (try simp only [kNW]); omega) (fun q h => by have h9 := hS.1; (try dsimp only at h); (try dsimp only); (try simp only [kNW] at h); (try simp only [kNW]); omega) (fun z_63 H_61 locs_58 hz_60 hF_62 hS_59 => ?_)
        have hzf_64 := hF_62.1
        have hF_62 := hF_62.nw
        obtain ⟨hv_65, hnw_66⟩ := hz_60
        subst z_63
        refine lv_istore (lv' := [(6, .int (kI (3))), (0, .ref b), (1, .ref x1), (2, .ref mm), (3, .ref out), (4, .ref outD), (5, .int (kI ((3 * j : Nat) : Int)))]) hx hb dL_law_321 hl (by decide) rfl (fun ls hl => ?_)
        refine lv_aload_n hx hb dL_law_323 rfl (lv_at hl 3 rfl) ?_
        refine lv_aload_n hx hb dL_law_324 rfl (lv_at hl 1 rfl) ?_
        refine lv_iload hx hb dL_law_325 (lv_at hl 6 rfl) ?_
        refine kx_iconst hx hb dL_law_327 ?_
        refine kx_iadd hx hb dL_law_328 ?_
        refine kx_sld (i := (((3 * j : Nat) : Int) + 1)) hx hb hX hbl hbA hS_59 (3 * j + 1) (by omega) (by omega) (by omega) dL_law_329 ?_
        refine kx_eqi (((ln9 : Nat) : Int)) (hz1.symm.trans hv1) ?_
        refine lv_aload_n hx hb dL_law_330 rfl (lv_at hl 1 rfl) ?_
        refine lv_iload hx hb dL_law_331 (lv_at hl 6 rfl) ?_
        refine kx_iconst hx hb dL_law_333 ?_
        refine kx_iadd hx hb dL_law_334 ?_
        refine kx_sld (i := (((3 * j : Nat) : Int) + 2)) hx hb hX hbl hbA hS_59 (3 * j + 2) (by omega) (by omega) (by omega) dL_law_335 ?_
        refine kx_eqi (z2) (hz2.symm) ?_
        have h_67 := hO_mm.ex hF_62
        have h_68 := hA_ra.ex hF_62
        have h_69 := hA_sa.ex hF_62
        have h_70 := hA_ka.ex hF_62
        have h_71 := hA_ta.ex hF_62
        have ty_mm : ∀ x, x = mm → H_61.size ≤ x ∨ (kTy D H_61 x ∧ c0 ≤ x ∧ x < c1) := fun x h => by rw [h]; exact Or.inr ⟨Or.inl ⟨2, _, by decide, by decide, by decide, h_67⟩, i_mm.1, w_mm⟩
        refine kx_cb (va_runV (As := [.int (kI ((ln9 : Nat) : Int)), .int (kI (z2))]) (rest := []) ⟨hx, hb, hml, hown, hts⟩ (m_X3_step_no l D H_61 mm ra sa ka ta nh ik t.length th sp9 iw le9 fi9 se9 g gs S gap ((hl2.map Prod.snd)) (((ln9 : Nat) : Int)) z2 h_67 h_68 h_69 (by first | assumption | omega) (by first | assumption | omega) (by first | assumption | omega) n_mm_ra n_mm_sa n_ra_sa b_mm b_ra b_sa (by first | assumption | omega) (by first | assumption | omega) (by rw [rs3 hln hA2 hA3]; decide) (by rw [rs3 hln hA2 hA3]; decide)) (cwV 2 hts (lw_V q2411 q2412 q2413 q89 q2414) rfl rfl rfl (by decide +kernel) ⟨Nat.le_of_ble_eq_true rfl, Nat.le_of_ble_eq_true rfl⟩) (kx_pv hK hS_59 hB (kx_rc hK h_67 (C := RX3) (T := TX3) (N := 13) rfl)) rfl rfl hl.1 rfl (lv_room (Nat.le_of_ble_eq_true rfl)) dL_law_336 ⟨by first | exact Nat.le_of_ble_eq_true rfl | omega | (dsimp only [lwR]; omega) | (show _ ≤ _; omega), by first | exact Nat.le_of_ble_eq_true rfl | omega | (dsimp only [lwR]; omega) | (show _ ≤ _; omega)⟩) hS_59 (fun q _ h => (ge_mm q) h) (fun q h => (ge_mm q) h) (fun z_77 H_75 locs_72 hz_74 hF_76 hS_73 => ?_)
        have hzf_78 := hF_76.1
        obtain ⟨hv_79, ho_80⟩ := hz_74
        subst z_77
        refine lv_istore (lv' := [(7, .int (kI (kb (false)))), (6, .int (kI (3))), (0, .ref b), (1, .ref x1), (2, .ref mm), (3, .ref out), (4, .ref outD), (5, .int (kI ((3 * j : Nat) : Int)))]) hx hb dL_law_339 hl (by decide) rfl (fun ls hl => ?_)
        refine lv_aload_n hx hb dL_law_341 rfl (lv_at hl 4 rfl) ?_
        refine kx_ci0 (va_runV (As := []) (rest := []) ⟨hx, hb, hml, hown, hts⟩ (m_X3_thrown l D H_75 mm ra sa ka ta nh ik t.length (ref_s S ((((ln9 : Nat) : Int))) z2) sp9 iw le9 fi9 se9 ho_80 ) (cwV 0 hts (lw_V q2278 q2279 q2280 q89 q2281) rfl rfl rfl (by decide +kernel) ⟨Nat.le_of_ble_eq_true rfl, Nat.le_of_ble_eq_true rfl⟩) (kx_pv hK hS_73 hB (kx_rc hK ho_80 (C := RX3) (T := TX3) (N := 13) rfl)) rfl rfl hl.1 rfl (lv_room (Nat.le_of_ble_eq_true rfl)) dL_law_342 ⟨by first | exact Nat.le_of_ble_eq_true rfl | omega | (dsimp only [lwR]; omega) | (show _ ≤ _; omega), by first | exact Nat.le_of_ble_eq_true rfl | omega | (dsimp only [lwR]; omega) | (show _ ≤ _; omega)⟩) hS_73 (fun z_84 locs_81 hz_83 hS_82 => ?_)
        subst z_84
        refine kx_eqi (3) (rs3 hln hA2 hA3) ?_
        refine lv_iload hx hb dL_law_345 (lv_at hl 1 rfl) ?_
        refine kx_icmp_eq (x := 3) (y := 3) (tgt := 352) hx hb dL_law_347 (by decide) (by omega) (by omega) (by omega) (by omega) (fun c_347_85 => ?_) (fun c_347_85 => ?_)
        · -- taken at 347
          refine lv_iload hx hb dL_law_352 (lv_at hl 1 rfl) ?_
          refine kx_if_ne (x := 3) (tgt := 376) hx hb dL_law_354 (by decide) (by omega) (by omega) (fun c_354_86 => ?_) (fun c_354_86 => ?_)
          · -- taken at 354
            refine lv_goto (tgt := 2493) hx hb dL_law_376 (by decide) ?_
            have h_87 := h_68.fr hF_76 (n_mm_ra.sm)
            have h_88 := h_69.fr hF_76 (n_mm_sa.sm)
            have h_89 := h_70.fr hF_76 (n_mm_ka.sm)
            have h_90 := h_71.fr hF_76 (n_mm_ta.sm)
            have h_91 := hA_out.ex hF_62
            have h_92 := h_91.fr hF_76 (n_mm_out.sm)
            have h_93 := hA_outD.ex hF_62
            have h_94 := h_93.fr hF_76 (n_mm_outD.sm)
            have h_95 := hW.ex hd9 hF_62
            have h_96 := h_95.fr hd9 hF_76 (fun x => (ty_mm x))
            refine W.widen (k := cells + 50000) (n := slots + 228000) (by omega) (by omega) ?_
            have hM9 : kM D H_75 c0 out mm (S, gap) ((sl.map Prod.snd).head?) (hl2.map Prod.snd) t := ⟨ra, sa, ka, ta, _, _, _, _, _, _, _, _, _, _, _, _, ho_80, h_87, h_88, h_89, h_90, hMr, hMh, hMk, hMt, ht60, hMd, hMb, hMi⟩
            exact kk (S, gap) ((sl.map Prod.snd).head?) (hl2.map Prod.snd) t _ _ _ ⟨hS_82, lv_sub hl [2, 3, 4, 5, 6, 7] rfl, h_96, hM9, ⟨_, h_92⟩, ⟨_, h_94⟩, by omega, by omega⟩
          · -- not taken at 354
            exfalso; omega
        · -- not taken at 347
          exfalso; omega
    · -- hA2
      refine lv_aload_n hx hb dL_law_304 rfl (lv_at hl 1 rfl) ?_
      refine lv_aload_n hx hb dL_law_305 rfl (lv_at hl 0 rfl) ?_
      refine lv_iload hx hb dL_law_306 (lv_at hl 5 rfl) ?_
      refine kx_iconst hx hb dL_law_308 ?_
      refine kx_iadd hx hb dL_law_309 ?_
      refine kx_sld (i := (((3 * j : Nat) : Int) + 1)) hx hb hX hbl hbA hS (3 * j + 1) (by omega) (by omega) (by omega) dL_law_310 ?_
      refine kx_eqi (((ln9 : Nat) : Int)) (hz1.symm.trans hv1) ?_
      refine lv_aload_n hx hb dL_law_311 rfl (lv_at hl 0 rfl) ?_
      refine lv_iload hx hb dL_law_312 (lv_at hl 5 rfl) ?_
      refine kx_iconst hx hb dL_law_314 ?_
      refine kx_iadd hx hb dL_law_315 ?_
      refine kx_sld (i := (((3 * j : Nat) : Int) + 2)) hx hb hX hbl hbA hS (3 * j + 2) (by omega) (by omega) (by omega) dL_law_316 ?_
      refine kx_eqi (z2) (hz2.symm) ?_
      refine lv_aload_n hx hb dL_law_317 rfl (lv_at hl 3 rfl) ?_
      refine kx_ci (vx_runSW (As := [.ref x1, .int (kI ((ln9 : Nat) : Int)), .int (kI (z2)), .ref out]) (rest := []) ⟨hx, hb, hml, hown, hts⟩ (wx_step_2 l hl9 D H x1 ((sl.map (fun a => a.1.1)).head?) hi bu st la mc9 ea F S gap ln9 z2 out hO_x1 hO_st hO_la hLs9 hLn9 (by first | assumption | omega) (by first | assumption | omega) (by first | assumption | omega) (by first | assumption | omega)) (vx_cwSW 4 hts (lw_SW q1853 q1854 q78 q1855) rfl rfl rfl (by decide +kernel) ⟨Nat.le_of_ble_eq_true rfl, Nat.le_of_ble_eq_true rfl⟩) (kx_ps hK hS hB) rfl rfl hl.1 rfl (lv_room (Nat.le_of_ble_eq_true rfl)) dL_law_318 ⟨by first | exact Nat.le_of_ble_eq_true rfl | omega | (dsimp only [lwR]; omega) | (show _ ≤ _; omega), by first | exact Nat.le_of_ble_eq_true rfl | omega | (dsimp only [lwR]; omega) | (show _ ≤ _; omega)⟩) hS (fun q _ h => by have h9 := hS.1; (try dsimp only at h); (try dsimp only); (try simp only [kNW] at h); (try simp only [kNW]); omega) (fun q h => by have h9 := hS.1; (try dsimp only at h); (try dsimp only); (try simp only [kNW] at h); (try simp only [kNW]); omega) (fun z_102 H_100 locs_97 hz_99 hF_101 hS_98 => ?_)
      have hzf_103 := hF_101.1
      have hF_101 := hF_101.nw
      obtain ⟨hv_104, hnw_105⟩ := hz_99
      subst z_102
      refine lv_istore (lv' := [(6, .int (kI (2))), (0, .ref b), (1, .ref x1), (2, .ref mm), (3, .ref out), (4, .ref outD), (5, .int (kI ((3 * j : Nat) : Int)))]) hx hb dL_law_321 hl (by decide) rfl (fun ls hl => ?_)
      refine lv_aload_n hx hb dL_law_323 rfl (lv_at hl 3 rfl) ?_
      refine lv_aload_n hx hb dL_law_324 rfl (lv_at hl 1 rfl) ?_
      refine lv_iload hx hb dL_law_325 (lv_at hl 6 rfl) ?_
      refine kx_iconst hx hb dL_law_327 ?_
      refine kx_iadd hx hb dL_law_328 ?_
      refine kx_sld (i := (((3 * j : Nat) : Int) + 1)) hx hb hX hbl hbA hS_98 (3 * j + 1) (by omega) (by omega) (by omega) dL_law_329 ?_
      refine kx_eqi (((ln9 : Nat) : Int)) (hz1.symm.trans hv1) ?_
      refine lv_aload_n hx hb dL_law_330 rfl (lv_at hl 1 rfl) ?_
      refine lv_iload hx hb dL_law_331 (lv_at hl 6 rfl) ?_
      refine kx_iconst hx hb dL_law_333 ?_
      refine kx_iadd hx hb dL_law_334 ?_
      refine kx_sld (i := (((3 * j : Nat) : Int) + 2)) hx hb hX hbl hbA hS_98 (3 * j + 2) (by omega) (by omega) (by omega) dL_law_335 ?_
      refine kx_eqi (z2) (hz2.symm) ?_
      have h_106 := hO_mm.ex hF_101
      have h_107 := hA_ra.ex hF_101
      have h_108 := hA_sa.ex hF_101
      have h_109 := hA_ka.ex hF_101
      have h_110 := hA_ta.ex hF_101
      have ty_mm : ∀ x, x = mm → H_100.size ≤ x ∨ (kTy D H_100 x ∧ c0 ≤ x ∧ x < c1) := fun x h => by rw [h]; exact Or.inr ⟨Or.inl ⟨2, _, by decide, by decide, by decide, h_106⟩, i_mm.1, w_mm⟩
      refine kx_cb (va_runV (As := [.int (kI ((ln9 : Nat) : Int)), .int (kI (z2))]) (rest := []) ⟨hx, hb, hml, hown, hts⟩ (m_X3_step_no l D H_100 mm ra sa ka ta nh ik t.length th sp9 iw le9 fi9 se9 g gs S gap ((hl2.map Prod.snd)) (((ln9 : Nat) : Int)) z2 h_106 h_107 h_108 (by first | assumption | omega) (by first | assumption | omega) (by first | assumption | omega) n_mm_ra n_mm_sa n_ra_sa b_mm b_ra b_sa (by first | assumption | omega) (by first | assumption | omega) (by rw [rs2 hln hA2]; decide) (by rw [rs2 hln hA2]; decide)) (cwV 2 hts (lw_V q2411 q2412 q2413 q89 q2414) rfl rfl rfl (by decide +kernel) ⟨Nat.le_of_ble_eq_true rfl, Nat.le_of_ble_eq_true rfl⟩) (kx_pv hK hS_98 hB (kx_rc hK h_106 (C := RX3) (T := TX3) (N := 13) rfl)) rfl rfl hl.1 rfl (lv_room (Nat.le_of_ble_eq_true rfl)) dL_law_336 ⟨by first | exact Nat.le_of_ble_eq_true rfl | omega | (dsimp only [lwR]; omega) | (show _ ≤ _; omega), by first | exact Nat.le_of_ble_eq_true rfl | omega | (dsimp only [lwR]; omega) | (show _ ≤ _; omega)⟩) hS_98 (fun q _ h => (ge_mm q) h) (fun q h => (ge_mm q) h) (fun z_116 H_114 locs_111 hz_113 hF_115 hS_112 => ?_)
      have hzf_117 := hF_115.1
      obtain ⟨hv_118, ho_119⟩ := hz_113
      subst z_116
      refine lv_istore (lv' := [(7, .int (kI (kb (false)))), (6, .int (kI (2))), (0, .ref b), (1, .ref x1), (2, .ref mm), (3, .ref out), (4, .ref outD), (5, .int (kI ((3 * j : Nat) : Int)))]) hx hb dL_law_339 hl (by decide) rfl (fun ls hl => ?_)
      refine lv_aload_n hx hb dL_law_341 rfl (lv_at hl 4 rfl) ?_
      refine kx_ci0 (va_runV (As := []) (rest := []) ⟨hx, hb, hml, hown, hts⟩ (m_X3_thrown l D H_114 mm ra sa ka ta nh ik t.length (ref_s S ((((ln9 : Nat) : Int))) z2) sp9 iw le9 fi9 se9 ho_119 ) (cwV 0 hts (lw_V q2278 q2279 q2280 q89 q2281) rfl rfl rfl (by decide +kernel) ⟨Nat.le_of_ble_eq_true rfl, Nat.le_of_ble_eq_true rfl⟩) (kx_pv hK hS_112 hB (kx_rc hK ho_119 (C := RX3) (T := TX3) (N := 13) rfl)) rfl rfl hl.1 rfl (lv_room (Nat.le_of_ble_eq_true rfl)) dL_law_342 ⟨by first | exact Nat.le_of_ble_eq_true rfl | omega | (dsimp only [lwR]; omega) | (show _ ≤ _; omega), by first | exact Nat.le_of_ble_eq_true rfl | omega | (dsimp only [lwR]; omega) | (show _ ≤ _; omega)⟩) hS_112 (fun z_123 locs_120 hz_122 hS_121 => ?_)
      subst z_123
      refine kx_eqi (2) (rs2 hln hA2) ?_
      refine lv_iload hx hb dL_law_345 (lv_at hl 1 rfl) ?_
      refine kx_icmp_eq (x := 2) (y := 2) (tgt := 352) hx hb dL_law_347 (by decide) (by omega) (by omega) (by omega) (by omega) (fun c_347_124 => ?_) (fun c_347_124 => ?_)
      · -- taken at 347
        refine lv_iload hx hb dL_law_352 (lv_at hl 1 rfl) ?_
        refine kx_if_ne (x := 2) (tgt := 376) hx hb dL_law_354 (by decide) (by omega) (by omega) (fun c_354_125 => ?_) (fun c_354_125 => ?_)
        · -- taken at 354
          refine lv_goto (tgt := 2493) hx hb dL_law_376 (by decide) ?_
          have h_126 := h_107.fr hF_115 (n_mm_ra.sm)
          have h_127 := h_108.fr hF_115 (n_mm_sa.sm)
          have h_128 := h_109.fr hF_115 (n_mm_ka.sm)
          have h_129 := h_110.fr hF_115 (n_mm_ta.sm)
          have h_130 := hA_out.ex hF_101
          have h_131 := h_130.fr hF_115 (n_mm_out.sm)
          have h_132 := hA_outD.ex hF_101
          have h_133 := h_132.fr hF_115 (n_mm_outD.sm)
          have h_134 := hW.ex hd9 hF_101
          have h_135 := h_134.fr hd9 hF_115 (fun x => (ty_mm x))
          refine W.widen (k := cells + 50000) (n := slots + 228000) (by omega) (by omega) ?_
          have hM9 : kM D H_114 c0 out mm (S, gap) ((sl.map Prod.snd).head?) (hl2.map Prod.snd) t := ⟨ra, sa, ka, ta, _, _, _, _, _, _, _, _, _, _, _, _, ho_119, h_126, h_127, h_128, h_129, hMr, hMh, hMk, hMt, ht60, hMd, hMb, hMi⟩
          exact kk (S, gap) ((sl.map Prod.snd).head?) (hl2.map Prod.snd) t _ _ _ ⟨hS_121, lv_sub hl [2, 3, 4, 5, 6, 7] rfl, h_135, hM9, ⟨_, h_131⟩, ⟨_, h_133⟩, by omega, by omega⟩
        · -- not taken at 354
          exfalso; omega
      · -- not taken at 347
        exfalso; omega
  · -- hA
    refine lv_aload_n hx hb dL_law_304 rfl (lv_at hl 1 rfl) ?_
    refine lv_aload_n hx hb dL_law_305 rfl (lv_at hl 0 rfl) ?_
    refine lv_iload hx hb dL_law_306 (lv_at hl 5 rfl) ?_
    refine kx_iconst hx hb dL_law_308 ?_
    refine kx_iadd hx hb dL_law_309 ?_
    refine kx_sld (i := (((3 * j : Nat) : Int) + 1)) hx hb hX hbl hbA hS (3 * j + 1) (by omega) (by omega) (by omega) dL_law_310 ?_
    refine kx_eqi (z1) (hz1.symm) ?_
    refine lv_aload_n hx hb dL_law_311 rfl (lv_at hl 0 rfl) ?_
    refine lv_iload hx hb dL_law_312 (lv_at hl 5 rfl) ?_
    refine kx_iconst hx hb dL_law_314 ?_
    refine kx_iadd hx hb dL_law_315 ?_
    refine kx_sld (i := (((3 * j : Nat) : Int) + 2)) hx hb hX hbl hbA hS (3 * j + 2) (by omega) (by omega) (by omega) dL_law_316 ?_
    refine kx_eqi (z2) (hz2.symm) ?_
    refine lv_aload_n hx hb dL_law_317 rfl (lv_at hl 3 rfl) ?_
    refine kx_ci (vx_runSW (As := [.ref x1, .int (kI (z1)), .int (kI (z2)), .ref out]) (rest := []) ⟨hx, hb, hml, hown, hts⟩ (wx_step_1 l hl9 D H x1 ((sl.map (fun a => a.1.1)).head?) hi bu st la mc9 ea F S gap z1 z2 out hO_x1 hO_st hO_la hLs9 hLn9 (by first | assumption | omega) (by first | assumption | omega) (by first | assumption | omega) (by first | assumption | omega)) (vx_cwSW 4 hts (lw_SW q1853 q1854 q78 q1855) rfl rfl rfl (by decide +kernel) ⟨Nat.le_of_ble_eq_true rfl, Nat.le_of_ble_eq_true rfl⟩) (kx_ps hK hS hB) rfl rfl hl.1 rfl (lv_room (Nat.le_of_ble_eq_true rfl)) dL_law_318 ⟨by first | exact Nat.le_of_ble_eq_true rfl | omega | (dsimp only [lwR]; omega) | (show _ ≤ _; omega), by first | exact Nat.le_of_ble_eq_true rfl | omega | (dsimp only [lwR]; omega) | (show _ ≤ _; omega)⟩) hS (fun q _ h => by have h9 := hS.1; (try dsimp only at h); (try dsimp only); (try simp only [kNW] at h); (try simp only [kNW]); omega) (fun q h => by have h9 := hS.1; (try dsimp only at h); (try dsimp only); (try simp only [kNW] at h); (try simp only [kNW]); omega) (fun z_141 H_139 locs_136 hz_138 hF_140 hS_137 => ?_)
    have hzf_142 := hF_140.1
    have hF_140 := hF_140.nw
    obtain ⟨hv_143, hnw_144⟩ := hz_138
    subst z_141
    refine lv_istore (lv' := [(6, .int (kI (1))), (0, .ref b), (1, .ref x1), (2, .ref mm), (3, .ref out), (4, .ref outD), (5, .int (kI ((3 * j : Nat) : Int)))]) hx hb dL_law_321 hl (by decide) rfl (fun ls hl => ?_)
    refine lv_aload_n hx hb dL_law_323 rfl (lv_at hl 3 rfl) ?_
    refine lv_aload_n hx hb dL_law_324 rfl (lv_at hl 1 rfl) ?_
    refine lv_iload hx hb dL_law_325 (lv_at hl 6 rfl) ?_
    refine kx_iconst hx hb dL_law_327 ?_
    refine kx_iadd hx hb dL_law_328 ?_
    refine kx_sld (i := (((3 * j : Nat) : Int) + 1)) hx hb hX hbl hbA hS_137 (3 * j + 1) (by omega) (by omega) (by omega) dL_law_329 ?_
    refine kx_eqi (z1) (hz1.symm) ?_
    refine lv_aload_n hx hb dL_law_330 rfl (lv_at hl 1 rfl) ?_
    refine lv_iload hx hb dL_law_331 (lv_at hl 6 rfl) ?_
    refine kx_iconst hx hb dL_law_333 ?_
    refine kx_iadd hx hb dL_law_334 ?_
    refine kx_sld (i := (((3 * j : Nat) : Int) + 2)) hx hb hX hbl hbA hS_137 (3 * j + 2) (by omega) (by omega) (by omega) dL_law_335 ?_
    refine kx_eqi (z2) (hz2.symm) ?_
    have h_145 := hO_mm.ex hF_140
    have h_146 := hA_ra.ex hF_140
    have h_147 := hA_sa.ex hF_140
    have h_148 := hA_ka.ex hF_140
    have h_149 := hA_ta.ex hF_140
    have ty_mm : ∀ x, x = mm → H_139.size ≤ x ∨ (kTy D H_139 x ∧ c0 ≤ x ∧ x < c1) := fun x h => by rw [h]; exact Or.inr ⟨Or.inl ⟨2, _, by decide, by decide, by decide, h_145⟩, i_mm.1, w_mm⟩
    refine kx_cb (va_runV (As := [.int (kI (z1)), .int (kI (z2))]) (rest := []) ⟨hx, hb, hml, hown, hts⟩ (m_X3_step_no l D H_139 mm ra sa ka ta nh ik t.length th sp9 iw le9 fi9 se9 g gs S gap ((hl2.map Prod.snd)) z1 z2 h_145 h_146 h_147 (by first | assumption | omega) (by first | assumption | omega) (by first | assumption | omega) n_mm_ra n_mm_sa n_ra_sa b_mm b_ra b_sa (by first | assumption | omega) (by first | assumption | omega) (by rw [rs1 hA]; decide) (by rw [rs1 hA]; decide)) (cwV 2 hts (lw_V q2411 q2412 q2413 q89 q2414) rfl rfl rfl (by decide +kernel) ⟨Nat.le_of_ble_eq_true rfl, Nat.le_of_ble_eq_true rfl⟩) (kx_pv hK hS_137 hB (kx_rc hK h_145 (C := RX3) (T := TX3) (N := 13) rfl)) rfl rfl hl.1 rfl (lv_room (Nat.le_of_ble_eq_true rfl)) dL_law_336 ⟨by first | exact Nat.le_of_ble_eq_true rfl | omega | (dsimp only [lwR]; omega) | (show _ ≤ _; omega), by first | exact Nat.le_of_ble_eq_true rfl | omega | (dsimp only [lwR]; omega) | (show _ ≤ _; omega)⟩) hS_137 (fun q _ h => (ge_mm q) h) (fun q h => (ge_mm q) h) (fun z_155 H_153 locs_150 hz_152 hF_154 hS_151 => ?_)
    have hzf_156 := hF_154.1
    obtain ⟨hv_157, ho_158⟩ := hz_152
    subst z_155
    refine lv_istore (lv' := [(7, .int (kI (kb (false)))), (6, .int (kI (1))), (0, .ref b), (1, .ref x1), (2, .ref mm), (3, .ref out), (4, .ref outD), (5, .int (kI ((3 * j : Nat) : Int)))]) hx hb dL_law_339 hl (by decide) rfl (fun ls hl => ?_)
    refine lv_aload_n hx hb dL_law_341 rfl (lv_at hl 4 rfl) ?_
    refine kx_ci0 (va_runV (As := []) (rest := []) ⟨hx, hb, hml, hown, hts⟩ (m_X3_thrown l D H_153 mm ra sa ka ta nh ik t.length (ref_s S z1 z2) sp9 iw le9 fi9 se9 ho_158 ) (cwV 0 hts (lw_V q2278 q2279 q2280 q89 q2281) rfl rfl rfl (by decide +kernel) ⟨Nat.le_of_ble_eq_true rfl, Nat.le_of_ble_eq_true rfl⟩) (kx_pv hK hS_151 hB (kx_rc hK ho_158 (C := RX3) (T := TX3) (N := 13) rfl)) rfl rfl hl.1 rfl (lv_room (Nat.le_of_ble_eq_true rfl)) dL_law_342 ⟨by first | exact Nat.le_of_ble_eq_true rfl | omega | (dsimp only [lwR]; omega) | (show _ ≤ _; omega), by first | exact Nat.le_of_ble_eq_true rfl | omega | (dsimp only [lwR]; omega) | (show _ ≤ _; omega)⟩) hS_151 (fun z_162 locs_159 hz_161 hS_160 => ?_)
    subst z_162
    refine kx_eqi (1) (rs1 hA) ?_
    refine lv_iload hx hb dL_law_345 (lv_at hl 1 rfl) ?_
    refine kx_icmp_eq (x := 1) (y := 1) (tgt := 352) hx hb dL_law_347 (by decide) (by omega) (by omega) (by omega) (by omega) (fun c_347_163 => ?_) (fun c_347_163 => ?_)
    · -- taken at 347
      refine lv_iload hx hb dL_law_352 (lv_at hl 1 rfl) ?_
      refine kx_if_ne (x := 1) (tgt := 376) hx hb dL_law_354 (by decide) (by omega) (by omega) (fun c_354_164 => ?_) (fun c_354_164 => ?_)
      · -- taken at 354
        refine lv_goto (tgt := 2493) hx hb dL_law_376 (by decide) ?_
        have h_165 := h_146.fr hF_154 (n_mm_ra.sm)
        have h_166 := h_147.fr hF_154 (n_mm_sa.sm)
        have h_167 := h_148.fr hF_154 (n_mm_ka.sm)
        have h_168 := h_149.fr hF_154 (n_mm_ta.sm)
        have h_169 := hA_out.ex hF_140
        have h_170 := h_169.fr hF_154 (n_mm_out.sm)
        have h_171 := hA_outD.ex hF_140
        have h_172 := h_171.fr hF_154 (n_mm_outD.sm)
        have h_173 := hW.ex hd9 hF_140
        have h_174 := h_173.fr hd9 hF_154 (fun x => (ty_mm x))
        refine W.widen (k := cells + 50000) (n := slots + 228000) (by omega) (by omega) ?_
        have hM9 : kM D H_153 c0 out mm (S, gap) ((sl.map Prod.snd).head?) (hl2.map Prod.snd) t := ⟨ra, sa, ka, ta, _, _, _, _, _, _, _, _, _, _, _, _, ho_158, h_165, h_166, h_167, h_168, hMr, hMh, hMk, hMt, ht60, hMd, hMb, hMi⟩
        exact kk (S, gap) ((sl.map Prod.snd).head?) (hl2.map Prod.snd) t _ _ _ ⟨hS_160, lv_sub hl [2, 3, 4, 5, 6, 7] rfl, h_174, hM9, ⟨_, h_170⟩, ⟨_, h_172⟩, by omega, by omega⟩
      · -- not taken at 354
        exfalso; omega
    · -- not taken at 347
      exfalso; omega

set_option maxHeartbeats 8000000 in
set_option maxRecDepth 100000 in
theorem lc_wipe {p : Program} {e : Env} {s : State} {m : MethodId} {below : List Frame} {meth : Method} {c : Code} {l : Launch} {D : kG} {b L c0 c1 x1 mm out outD : Nat} {xs : Nat → Int32} {Q : State → Prop} (C0 : lwC D p l s m meth c b L c0 c1 out outD xs) {j : Nat} (hj : 3 * j + 3 ≤ L) {S : Ls} {gap : Int} {sn : Option Sg} {hs : List Sg} {t : List Int} {H : Heap} {locs : List Loc} {ls : Array Slot} (I0 : lwI D s b c0 c1 x1 mm out outD j j (S, gap) sn hs t H locs ls) {cells slots : Nat} (hcl : cells + 50000 ≤ 1200144) (hsl9 : slots + 228000 ≤ 5496058) (kk : ∀ (σ : Sg) (sn : Option Sg) (hs : List Sg) (t : List Int) (H : Heap) (locs : List Loc) (ls : Array Slot), lwI D s b c0 c1 x1 mm out outD j (j + 1) σ sn hs t H locs ls → W p l e lwR s m #[Value.ref b] below meth c H locs (cells + 50000) (slots + 228000) Q (F0 m 2493 ls [])) : W p l e lwR s m #[Value.ref b] below meth c H locs cells slots Q (F0 m 379 ls []) := by
  obtain ⟨hx, hb, hml, hown, hts, hlk, hK, hl9, hX, hbl, hbs, hL72, hc0, hco, hod, hdc⟩ := C0
  obtain ⟨hS, hl, hW, hM, ⟨go, hA_out⟩, ⟨gd, hA_outD⟩, hc1, htl⟩ := I0
  have hB : ∀ q, (kNW s.heap) q → kBase D ≤ q := fun q h => Nat.le_trans hK.size h
  have hbA : ¬ (kNW s.heap) b := fun h => by have h9 : s.heap.size ≤ b := h; omega
  have hd9 := hK.dis
  have hxE : ¬ kBase D ≤ D.2.2.2 2 := hK.tE.out
  obtain ⟨z1, hz1⟩ : ∃ z, z = (xs (3 * j + 1)).toInt := ⟨_, rfl⟩
  obtain ⟨z2, hz2⟩ : ∃ z, z = (xs (3 * j + 2)).toInt := ⟨_, rfl⟩
  have hr1 : -2147483648 ≤ z1 ∧ z1 ≤ 2147483647 := by rw [hz1]; exact i32r _
  have hr2 : -2147483648 ≤ z2 ∧ z2 ≤ 2147483647 := by rw [hz2]; exact i32r _
  obtain ⟨⟨st, la, ea, F⟩, sl, hl2, hi, es, bu, vb, hO_x1, hDq, hTx, hX5, hev, hAl, hDj, hPw, hsl, hsn, hhs⟩ := id hW
  subst hsn
  subst hhs
  obtain ⟨ra, sa, ka, ta, nh, ik, th, sp9, iw, le9, fi9, se9, g, gs, gk, gt, hO_mm, hA_ra, hA_sa, hA_ka, hA_ta, hMr, hMh, hMk, hMt, ht60, hMd, hMb, hMi⟩ := id hM
  have hMr : MRow g S gap := hMr
  have h0 := hAl _ List.mem_cons_self
  have hP_kState_st : kState D H st la ea gap S F := h0.1
  have hok : LsOK S gap := h0.2.1
  have hG : StG S := h0.2.2.1
  have hL8 : S.length ≤ 8 := hok.1
  have hgp := hok.2.1
  have hO_x1 : kO D H x1 0 [.ref st, va_rf ((sl.map (fun a => a.1.1)).head?), .ref hi, .ref bu] := hO_x1
  have hOw : ∀ q, kOwn D st la ea F S.length q → q ∉ [x1, hi, es, bu, vb] ∧ (q < c0 ∨ c1 ≤ q) := h0.2.2.2
  have hev : Hd (es ≠ vb) := hev
  have io_x1 : ∀ x, c0 ≤ x → x < c1 → x ≠ x1 := fun x => out_of (hX5 x1 (by simp)).2
  have io_hi : ∀ x, c0 ≤ x → x < c1 → x ≠ hi := fun x => out_of (hX5 hi (by simp)).2
  have io_es : ∀ x, c0 ≤ x → x < c1 → x ≠ es := fun x => out_of (hX5 es (by simp)).2
  have io_bu : ∀ x, c0 ≤ x → x < c1 → x ≠ bu := fun x => out_of (hX5 bu (by simp)).2
  have io_vb : ∀ x, c0 ≤ x → x < c1 → x ≠ vb := fun x => out_of (hX5 vb (by simp)).2
  have b_x1 := (hX5 x1 (by simp)).1
  have b_hi := (hX5 hi (by simp)).1
  have b_es := (hX5 es (by simp)).1
  have b_bu := (hX5 bu (by simp)).1
  have b_vb := (hX5 vb (by simp)).1
  obtain ⟨⟨⟨n1, n2, n3, n4⟩, n5, n6, n7⟩, n8, n9, n10⟩ := hMd
  have n_mm_ra : Hd (mm ≠ ra) := n1
  have n_mm_sa : Hd (mm ≠ sa) := n2
  have n_mm_ka : Hd (mm ≠ ka) := n3
  have n_mm_ta : Hd (mm ≠ ta) := n4
  have n_ra_sa : Hd (ra ≠ sa) := n5
  have n_ra_ka : Hd (ra ≠ ka) := n6
  have n_ra_ta : Hd (ra ≠ ta) := n7
  have n_sa_ka : Hd (sa ≠ ka) := n8
  have n_sa_ta : Hd (sa ≠ ta) := n9
  have n_ka_ta : Hd (ka ≠ ta) := n10
  have hMd : Hd (((mm ≠ ra ∧ mm ≠ sa ∧ mm ≠ ka ∧ mm ≠ ta) ∧ ra ≠ sa ∧ ra ≠ ka ∧ ra ≠ ta) ∧ sa ≠ ka ∧ sa ≠ ta ∧ ka ≠ ta) := ⟨⟨⟨n1, n2, n3, n4⟩, n5, n6, n7⟩, n8, n9, n10⟩
  clear n1 n2 n3 n4 n5 n6 n7 n8 n9 n10
  obtain ⟨b_mm, b_ra, b_sa, b_ka, b_ta⟩ := id hMb
  obtain ⟨i_mm, i_ra, i_sa, i_ka, i_ta⟩ := id hMi
  have b_out : kBase D ≤ out := by omega
  have hcc : c0 ≤ c1 := by omega
  have w_mm : mm < c1 := by omega
  have n_mm_out : Hd (mm ≠ out) := Nat.ne_of_lt i_mm.2
  have n_mm_outD : Hd (mm ≠ outD) := Nat.ne_of_lt (Nat.lt_trans i_mm.2 hod)
  have w_ra : ra < c1 := by omega
  have n_ra_out : Hd (ra ≠ out) := Nat.ne_of_lt i_ra.2
  have n_ra_outD : Hd (ra ≠ outD) := Nat.ne_of_lt (Nat.lt_trans i_ra.2 hod)
  have w_sa : sa < c1 := by omega
  have n_sa_out : Hd (sa ≠ out) := Nat.ne_of_lt i_sa.2
  have n_sa_outD : Hd (sa ≠ outD) := Nat.ne_of_lt (Nat.lt_trans i_sa.2 hod)
  have w_ka : ka < c1 := by omega
  have n_ka_out : Hd (ka ≠ out) := Nat.ne_of_lt i_ka.2
  have n_ka_outD : Hd (ka ≠ outD) := Nat.ne_of_lt (Nat.lt_trans i_ka.2 hod)
  have w_ta : ta < c1 := by omega
  have n_ta_out : Hd (ta ≠ out) := Nat.ne_of_lt i_ta.2
  have n_ta_outD : Hd (ta ≠ outD) := Nat.ne_of_lt (Nat.lt_trans i_ta.2 hod)
  have ge_mm : ∀ q, q = mm → kNW s.heap q := fun q h => by rw [h]; show s.heap.size ≤ mm; omega
  have ge_ra : ∀ q, q = ra → kNW s.heap q := fun q h => by rw [h]; show s.heap.size ≤ ra; omega
  have ge_sa : ∀ q, q = sa → kNW s.heap q := fun q h => by rw [h]; show s.heap.size ≤ sa; omega
  have ge_ka : ∀ q, q = ka → kNW s.heap q := fun q h => by rw [h]; show s.heap.size ≤ ka; omega
  have ge_ta : ∀ q, q = ta → kNW s.heap q := fun q h => by rw [h]; show s.heap.size ≤ ta; omega
  have ge_out : ∀ q, q = out → kNW s.heap q := fun q h => by rw [h]; show s.heap.size ≤ out; omega
  have n_out_outD : Hd (out ≠ outD) := Nat.ne_of_lt hod
  have w_out : out < c1 := by omega
  have w_outD : outD < c1 := hdc
  have i_outD : c0 ≤ outD := by omega
  have htyo : kTy D H out := Or.inr ⟨2, _, by decide, hA_out⟩
  have htyd : kTy D H outD := Or.inr ⟨3, _, by decide, hA_outD⟩
  have to_out : ∀ x, x = out → H.size ≤ x ∨ (kTy D H x ∧ c0 ≤ x ∧ x < c1) := fun x h => by rw [h]; exact Or.inr ⟨htyo, hco, w_out⟩
  have to_outD : ∀ x, x = outD → H.size ≤ x ∨ (kTy D H x ∧ c0 ≤ x ∧ x < c1) := fun x h => by rw [h]; exact Or.inr ⟨htyd, i_outD, w_outD⟩
  obtain ⟨⟨hO_st, mc9, hO_la⟩, hLs9, hLn9, hF9, hDs9, hb1, hb2, hb3⟩ := id hP_kState_st
  have hnx : ∀ q, kOwn D st la ea F S.length q → q ≠ hi ∧ q ≠ es ∧ q ≠ x1 := fun q hq => by
    have h9 := (hOw q hq).1
    simp only [List.mem_cons, List.not_mem_nil, or_false, not_or] at h9
    exact ⟨h9.2.1, h9.2.2.1, h9.1⟩
  have hnO9 : ∀ q, kOwn D st la ea F S.length q → q ≠ out := fun q hq => (out_of (hOw q hq).2 hco w_out).symm
  have nex : Hd (x1 ≠ hi ∧ x1 ≠ es) := by
    obtain ⟨_, _, _, y1, y2, _⟩ := hDq
    exact ⟨(kO_ne hd9 y1 hO_x1 (by decide) (by decide) (by decide)).symm, kOA_ne hd9 hO_x1 y2 (by decide) (by decide)⟩
  have neo : Hd (hi ≠ out ∧ es ≠ out ∧ x1 ≠ out) := ⟨(io_hi out hco w_out).symm, (io_es out hco w_out).symm, (io_x1 out hco w_out).symm⟩
  by_cases hA : 0 ≤ z1 ∧ z1 < (S.length : Int)
  · -- hA
    obtain ⟨ln9, hv1⟩ : ∃ k : Nat, z1 = (k : Int) := ⟨z1.toNat, by omega⟩
    have hln : ln9 < S.length := by omega
    have hLn := hok.ln hln
    have hel := erase_len hln
    have hrv : -2147483648 ≤ (((S.eraseIdx ln9).length : Nat) : Int) ∧ (((S.eraseIdx ln9).length : Nat) : Int) ≤ 2147483647 := ⟨by omega, by omega⟩
    refine lv_aload_n hx hb dL_law_379 rfl (lv_at hl 1 rfl) ?_
    refine lv_aload_n hx hb dL_law_380 rfl (lv_at hl 0 rfl) ?_
    refine lv_iload hx hb dL_law_381 (lv_at hl 5 rfl) ?_
    refine kx_iconst hx hb dL_law_383 ?_
    refine kx_iadd hx hb dL_law_384 ?_
    refine kx_sld (i := (((3 * j : Nat) : Int) + 1)) hx hb hX hbl hbA hS (3 * j + 1) (by omega) (by omega) (by omega) dL_law_385 ?_
    refine kx_eqi (((ln9 : Nat) : Int)) (hz1.symm.trans hv1) ?_
    refine lv_aload_n hx hb dL_law_386 rfl (lv_at hl 3 rfl) ?_
    refine kx_ci (vx_runSW (As := [.ref x1, .int (kI ((ln9 : Nat) : Int)), .ref out]) (rest := []) ⟨hx, hb, hml, hown, hts⟩ (wr_wipe l hl9 D H x1 ((sl.map (fun a => a.1.1)).head?) hi bu es ((hl2.map (fun a => a.1.1))) st la ea F S gap ln9 out go hO_x1 hP_kState_st hDq hA_out (by first | assumption | omega) (by first | assumption | omega) (by first | assumption | omega) (by first | assumption | omega) nex (by first | assumption | omega) (by first | assumption | omega) (by first | assumption | omega) neo (by first | assumption | omega)) (vx_cwSW 3 hts (lw_SW q1874 q1875 q78 q1876) rfl rfl rfl (by decide +kernel) ⟨Nat.le_of_ble_eq_true rfl, Nat.le_of_ble_eq_true rfl⟩) (kx_ps hK hS hB) rfl rfl hl.1 rfl (lv_room (Nat.le_of_ble_eq_true rfl)) dL_law_387 ⟨by first | exact Nat.le_of_ble_eq_true rfl | omega | (dsimp only [lwR]; omega) | (show _ ≤ _; omega), by first | exact Nat.le_of_ble_eq_true rfl | omega | (dsimp only [lwR]; omega) | (show _ ≤ _; omega)⟩) hS (fun q _ h => (fun h => Or.elim h (ge_out q) (fun h => Or.elim h (fun h => by have h8 := hP_kState_st.ownge h; show s.heap.size ≤ q; omega) (fun h => Or.elim h (fun h => by rw [h]; show s.heap.size ≤ hi; omega) (fun h => Or.elim h (fun h => by rw [h]; show s.heap.size ≤ es; omega) (fun h => Nat.le_trans hS.1 h))))) h) (fun q h => (fun h => Or.elim h (ge_out q) (fun h => Or.elim h (fun h => by have h8 := hP_kState_st.ownge h; show s.heap.size ≤ q; omega) (fun h => Or.elim h (fun h => by rw [h]; show s.heap.size ≤ hi; omega) (fun h => Or.elim h (fun h => by rw [h]; show s.heap.size ≤ es; omega) (fun h => Nat.le_trans hS.1 h))))) h) (fun z_6 H_4 locs_1 hz_3 hF_5 hS_2 => ?_)
    have hzf_7 := hF_5.1
    obtain ⟨crw, la2w, ea2w, F2w, ea3w, F3w, hv_14, ho_15, ho_16, ho_17, ho_18, ho_19, hw1, hw2, hw3⟩ := hz_3
    subst z_6
    have hW9 : kW D H_4 c0 c1 x1 (S.eraseIdx ln9, gap) ((sl.map Prod.snd).head?) (pushH (hl2.map Prod.snd) (S, gap)) t := kW.change (out := out) hd9 hxE hO_x1 hDq hTx hX5 hev hAl hDj hPw hsl hF_5 htyo ⟨hco, w_out⟩ hc1 ho_15 ho_16 ho_17 ho_18 hw1 hw2 hw3 (hok.erase hln) (hG.erase hln)
    refine lv_istore (lv' := [(6, .int (kI (0))), (0, .ref b), (1, .ref x1), (2, .ref mm), (3, .ref out), (4, .ref outD), (5, .int (kI ((3 * j : Nat) : Int)))]) hx hb dL_law_390 hl (by decide) rfl (fun ls hl => ?_)
    refine lv_aload_n hx hb dL_law_392 rfl (lv_at hl 3 rfl) ?_
    refine lv_aload_n hx hb dL_law_393 rfl (lv_at hl 1 rfl) ?_
    refine lv_iload hx hb dL_law_394 (lv_at hl 6 rfl) ?_
    refine kx_iconst hx hb dL_law_396 ?_
    refine kx_iadd hx hb dL_law_397 ?_
    refine kx_sld (i := (((3 * j : Nat) : Int) + 1)) hx hb hX hbl hbA hS_2 (3 * j + 1) (by omega) (by omega) (by omega) dL_law_398 ?_
    refine kx_eqi (((ln9 : Nat) : Int)) (hz1.symm.trans hv1) ?_
    have h_20 := hO_mm.fr hF_5 (fun h => Or.elim h (n_mm_out) (fun h => Or.elim h (fun h => out_of (hOw _ h).2 i_mm.1 w_mm rfl) (fun h => Or.elim h (io_hi _ i_mm.1 w_mm) (fun h => Or.elim h (io_es _ i_mm.1 w_mm) (fun h => Nat.not_le_of_gt hO_mm.lt h)))))
    have h_21 := hA_ra.fr hF_5 (fun h => Or.elim h (n_ra_out) (fun h => Or.elim h (fun h => out_of (hOw _ h).2 i_ra.1 w_ra rfl) (fun h => Or.elim h (io_hi _ i_ra.1 w_ra) (fun h => Or.elim h (io_es _ i_ra.1 w_ra) (fun h => Nat.not_le_of_gt hA_ra.lt h)))))
    have h_22 := hA_sa.fr hF_5 (fun h => Or.elim h (n_sa_out) (fun h => Or.elim h (fun h => out_of (hOw _ h).2 i_sa.1 w_sa rfl) (fun h => Or.elim h (io_hi _ i_sa.1 w_sa) (fun h => Or.elim h (io_es _ i_sa.1 w_sa) (fun h => Nat.not_le_of_gt hA_sa.lt h)))))
    have h_23 := hA_ka.fr hF_5 (fun h => Or.elim h (n_ka_out) (fun h => Or.elim h (fun h => out_of (hOw _ h).2 i_ka.1 w_ka rfl) (fun h => Or.elim h (io_hi _ i_ka.1 w_ka) (fun h => Or.elim h (io_es _ i_ka.1 w_ka) (fun h => Nat.not_le_of_gt hA_ka.lt h)))))
    have h_24 := hA_ta.fr hF_5 (fun h => Or.elim h (n_ta_out) (fun h => Or.elim h (fun h => out_of (hOw _ h).2 i_ta.1 w_ta rfl) (fun h => Or.elim h (io_hi _ i_ta.1 w_ta) (fun h => Or.elim h (io_es _ i_ta.1 w_ta) (fun h => Nat.not_le_of_gt hA_ta.lt h)))))
    have ty_mm : ∀ x, x = mm → H_4.size ≤ x ∨ (kTy D H_4 x ∧ c0 ≤ x ∧ x < c1) := fun x h => by rw [h]; exact Or.inr ⟨Or.inl ⟨2, _, by decide, by decide, by decide, h_20⟩, i_mm.1, w_mm⟩
    have ty_ra : ∀ x, x = ra → H_4.size ≤ x ∨ (kTy D H_4 x ∧ c0 ≤ x ∧ x < c1) := fun x h => by rw [h]; exact Or.inr ⟨Or.inr ⟨0, _, by decide, h_21⟩, i_ra.1, w_ra⟩
    have ty_sa : ∀ x, x = sa → H_4.size ≤ x ∨ (kTy D H_4 x ∧ c0 ≤ x ∧ x < c1) := fun x h => by rw [h]; exact Or.inr ⟨Or.inr ⟨0, _, by decide, h_22⟩, i_sa.1, w_sa⟩
    refine kx_ci (va_runV (As := [.int (kI ((ln9 : Nat) : Int))]) (rest := []) ⟨hx, hb, hml, hown, hts⟩ (m_X3_wipe l D H_4 mm ra sa ka ta nh ik t.length th sp9 iw le9 fi9 se9 g gs S gap ((hl2.map Prod.snd)) ln9 h_20 h_21 h_22 (by first | assumption | omega) (by first | assumption | omega) (by first | assumption | omega) n_mm_ra n_mm_sa n_ra_sa b_mm b_ra b_sa (by first | assumption | omega) (rw0 hln)) (cwV 1 hts (lw_V q2415 q2416 q2417 q89 q2418) rfl rfl rfl (by decide +kernel) ⟨Nat.le_of_ble_eq_true rfl, Nat.le_of_ble_eq_true rfl⟩) (kx_pv hK hS_2 hB (kx_rc hK h_20 (C := RX3) (T := TX3) (N := 13) rfl)) rfl rfl hl.1 rfl (lv_room (Nat.le_of_ble_eq_true rfl)) dL_law_399 ⟨by first | exact Nat.le_of_ble_eq_true rfl | omega | (dsimp only [lwR]; omega) | (show _ ≤ _; omega), by first | exact Nat.le_of_ble_eq_true rfl | omega | (dsimp only [lwR]; omega) | (show _ ≤ _; omega)⟩) hS_2 (fun q _ h => (fun h => Or.elim h (ge_mm q) (fun h => Or.elim h (ge_ra q) (ge_sa q))) h) (fun q h => (fun h => Or.elim h (ge_mm q) (fun h => Or.elim h (ge_ra q) (ge_sa q))) h) (fun z_30 H_28 locs_25 hz_27 hF_29 hS_26 => ?_)
    have hzf_31 := hF_29.1
    obtain ⟨g2_32, gs2_33, sn2_34, hv_35, ho_36, ho_37, ho_38, hM29, hH29⟩ := hz_27
    subst z_30
    refine kx_eqi ((((S.eraseIdx ln9).length : Nat) : Int)) (hel.symm) ?_
    refine lv_istore (lv' := [(7, .int (kI (((S.eraseIdx ln9).length : Nat) : Int))), (6, .int (kI (0))), (0, .ref b), (1, .ref x1), (2, .ref mm), (3, .ref out), (4, .ref outD), (5, .int (kI ((3 * j : Nat) : Int)))]) hx hb dL_law_402 hl (by decide) rfl (fun ls hl => ?_)
    refine lv_aload_n hx hb dL_law_404 rfl (lv_at hl 4 rfl) ?_
    refine kx_ci0 (va_runV (As := []) (rest := []) ⟨hx, hb, hml, hown, hts⟩ (m_X3_thrown l D H_28 mm ra sa ka ta sn2_34 ik t.length 0 sp9 iw le9 fi9 se9 ho_36 ) (cwV 0 hts (lw_V q2278 q2279 q2280 q89 q2281) rfl rfl rfl (by decide +kernel) ⟨Nat.le_of_ble_eq_true rfl, Nat.le_of_ble_eq_true rfl⟩) (kx_pv hK hS_26 hB (kx_rc hK ho_36 (C := RX3) (T := TX3) (N := 13) rfl)) rfl rfl hl.1 rfl (lv_room (Nat.le_of_ble_eq_true rfl)) dL_law_405 ⟨by first | exact Nat.le_of_ble_eq_true rfl | omega | (dsimp only [lwR]; omega) | (show _ ≤ _; omega), by first | exact Nat.le_of_ble_eq_true rfl | omega | (dsimp only [lwR]; omega) | (show _ ≤ _; omega)⟩) hS_26 (fun z_42 locs_39 hz_41 hS_40 => ?_)
    subst z_42
    refine lv_iload hx hb dL_law_408 (lv_at hl 1 rfl) ?_
    refine kx_icmp_eq (x := 0) (y := 0) (tgt := 415) hx hb dL_law_410 (by decide) (by omega) (by omega) (by omega) (by omega) (fun c_410_43 => ?_) (fun c_410_43 => ?_)
    · -- taken at 410
      refine lv_iload hx hb dL_law_415 (lv_at hl 1 rfl) ?_
      refine kx_if_ne (x := 0) (tgt := 432) hx hb dL_law_417 (by decide) (by omega) (by omega) (fun c_417_44 => ?_) (fun c_417_44 => ?_)
      · -- taken at 417
        exfalso; omega
      · -- not taken at 417
        refine lv_aload_n hx hb dL_law_420 rfl (lv_at hl 5 rfl) ?_
        refine kx_iconst hx hb dL_law_421 ?_
        have h_45 := ho_19.fr hF_29 (fun h => Or.elim h (n_mm_out.sm) (fun h => Or.elim h (n_ra_out.sm) (n_sa_out.sm)))
        refine kx_lald (i := 0) hx hb hK h_45 0 rfl (by decide) (by decide) dL_law_422 ?_
        refine lv_iload hx hb dL_law_423 (lv_at hl 0 rfl) ?_
        refine kx_i2l hx hb (z := (((S.eraseIdx ln9).length : Nat) : Int)) (by omega) (by omega) dL_law_425 ?_
        refine kx_lcmpE hx hb (x := ((kup go 0 (kL ((((S.eraseIdx ln9).length : Nat) : Int))))) 0) (y := kL ((((S.eraseIdx ln9).length : Nat) : Int))) (kup_self _ _ _) dL_law_426 ?_
        refine kx_if_eq (x := 0) (tgt := 432) hx hb dL_law_427 (by decide) (by omega) (by omega) (fun c_427_46 => ?_) (fun c_427_46 => ?_)
        · -- taken at 427
          refine lv_goto (tgt := 2493) hx hb dL_law_432 (by decide) ?_
          have h_47 := h_23.fr hF_29 (fun h => Or.elim h (n_mm_ka.sm) (fun h => Or.elim h (n_ra_ka.sm) (n_sa_ka.sm)))
          have h_48 := h_24.fr hF_29 (fun h => Or.elim h (n_mm_ta.sm) (fun h => Or.elim h (n_ra_ta.sm) (n_sa_ta.sm)))
          have h_49 := hA_outD.fr hF_5 (fun h => Or.elim h (n_out_outD.sm) (fun h => Or.elim h (fun h => out_of (hOw _ h).2 i_outD w_outD rfl) (fun h => Or.elim h (io_hi _ i_outD w_outD) (fun h => Or.elim h (io_es _ i_outD w_outD) (fun h => Nat.not_le_of_gt hA_outD.lt h)))))
          have h_50 := h_49.fr hF_29 (fun h => Or.elim h (n_mm_outD.sm) (fun h => Or.elim h (n_ra_outD.sm) (n_sa_outD.sm)))
          have h_51 := hW9.fr hd9 hF_29 (fun x => (fun h => Or.elim h (ty_mm x) (fun h => Or.elim h (ty_ra x) (ty_sa x))))
          refine W.widen (k := cells + 50000) (n := slots + 228000) (by omega) (by omega) ?_
          have hM9 : kM D H_28 c0 out mm (S.eraseIdx ln9, gap) ((sl.map Prod.snd).head?) (pushH (hl2.map Prod.snd) (S, gap)) t := ⟨ra, sa, ka, ta, _, _, _, _, _, _, _, _, _, _, _, _, ho_36, ho_37, ho_38, h_47, h_48, hM29, hH29, hMk, hMt, ht60, hMd, hMb, hMi⟩
          exact kk (S.eraseIdx ln9, gap) ((sl.map Prod.snd).head?) (pushH (hl2.map Prod.snd) (S, gap)) t _ _ _ ⟨hS_40, lv_sub hl [2, 3, 4, 5, 6, 7] rfl, h_51, hM9, ⟨_, h_45⟩, ⟨_, h_50⟩, by omega, by omega⟩
        · -- not taken at 427
          exfalso; omega
    · -- not taken at 410
      exfalso; omega
  · -- hA
    refine lv_aload_n hx hb dL_law_379 rfl (lv_at hl 1 rfl) ?_
    refine lv_aload_n hx hb dL_law_380 rfl (lv_at hl 0 rfl) ?_
    refine lv_iload hx hb dL_law_381 (lv_at hl 5 rfl) ?_
    refine kx_iconst hx hb dL_law_383 ?_
    refine kx_iadd hx hb dL_law_384 ?_
    refine kx_sld (i := (((3 * j : Nat) : Int) + 1)) hx hb hX hbl hbA hS (3 * j + 1) (by omega) (by omega) (by omega) dL_law_385 ?_
    refine kx_eqi (z1) (hz1.symm) ?_
    refine lv_aload_n hx hb dL_law_386 rfl (lv_at hl 3 rfl) ?_
    refine kx_ci (vx_runSW (As := [.ref x1, .int (kI (z1)), .ref out]) (rest := []) ⟨hx, hb, hml, hown, hts⟩ (wx_wipe l hl9 D H x1 ((sl.map (fun a => a.1.1)).head?) hi bu st la mc9 ea F S gap z1 out hO_x1 hO_st hO_la hLs9 hLn9 (by first | assumption | omega) (by first | assumption | omega) (by first | assumption | omega)) (vx_cwSW 3 hts (lw_SW q1874 q1875 q78 q1876) rfl rfl rfl (by decide +kernel) ⟨Nat.le_of_ble_eq_true rfl, Nat.le_of_ble_eq_true rfl⟩) (kx_ps hK hS hB) rfl rfl hl.1 rfl (lv_room (Nat.le_of_ble_eq_true rfl)) dL_law_387 ⟨by first | exact Nat.le_of_ble_eq_true rfl | omega | (dsimp only [lwR]; omega) | (show _ ≤ _; omega), by first | exact Nat.le_of_ble_eq_true rfl | omega | (dsimp only [lwR]; omega) | (show _ ≤ _; omega)⟩) hS (fun q _ h => by have h9 := hS.1; (try dsimp only at h); (try dsimp only); (try simp only [kNW] at h); (try simp only [kNW]); omega) (fun q h => by have h9 := hS.1; (try dsimp only at h); (try dsimp only); (try simp only [kNW] at h); (try simp only [kNW]); omega) (fun z_57 H_55 locs_52 hz_54 hF_56 hS_53 => ?_)
    have hzf_58 := hF_56.1
    have hF_56 := hF_56.nw
    obtain ⟨hv_59, hnw_60⟩ := hz_54
    subst z_57
    refine lv_istore (lv' := [(6, .int (kI (1))), (0, .ref b), (1, .ref x1), (2, .ref mm), (3, .ref out), (4, .ref outD), (5, .int (kI ((3 * j : Nat) : Int)))]) hx hb dL_law_390 hl (by decide) rfl (fun ls hl => ?_)
    refine lv_aload_n hx hb dL_law_392 rfl (lv_at hl 3 rfl) ?_
    refine lv_aload_n hx hb dL_law_393 rfl (lv_at hl 1 rfl) ?_
    refine lv_iload hx hb dL_law_394 (lv_at hl 6 rfl) ?_
    refine kx_iconst hx hb dL_law_396 ?_
    refine kx_iadd hx hb dL_law_397 ?_
    refine kx_sld (i := (((3 * j : Nat) : Int) + 1)) hx hb hX hbl hbA hS_53 (3 * j + 1) (by omega) (by omega) (by omega) dL_law_398 ?_
    refine kx_eqi (z1) (hz1.symm) ?_
    have h_61 := hO_mm.ex hF_56
    have h_62 := hA_ra.ex hF_56
    have h_63 := hA_sa.ex hF_56
    have h_64 := hA_ka.ex hF_56
    have h_65 := hA_ta.ex hF_56
    have ty_mm : ∀ x, x = mm → H_55.size ≤ x ∨ (kTy D H_55 x ∧ c0 ≤ x ∧ x < c1) := fun x h => by rw [h]; exact Or.inr ⟨Or.inl ⟨2, _, by decide, by decide, by decide, h_61⟩, i_mm.1, w_mm⟩
    refine kx_ci (va_runV (As := [.int (kI (z1))]) (rest := []) ⟨hx, hb, hml, hown, hts⟩ (m_X3_wipe_no l D H_55 mm ra sa ka ta nh ik t.length th sp9 iw le9 fi9 se9 g gs S gap ((hl2.map Prod.snd)) z1 h_61 h_62 h_63 (by first | assumption | omega) (by first | assumption | omega) (by first | assumption | omega) n_mm_ra n_mm_sa n_ra_sa b_mm b_ra b_sa (by first | assumption | omega) (by rw [rw1 hA]; decide) (by rw [rw1 hA]; decide)) (cwV 1 hts (lw_V q2415 q2416 q2417 q89 q2418) rfl rfl rfl (by decide +kernel) ⟨Nat.le_of_ble_eq_true rfl, Nat.le_of_ble_eq_true rfl⟩) (kx_pv hK hS_53 hB (kx_rc hK h_61 (C := RX3) (T := TX3) (N := 13) rfl)) rfl rfl hl.1 rfl (lv_room (Nat.le_of_ble_eq_true rfl)) dL_law_399 ⟨by first | exact Nat.le_of_ble_eq_true rfl | omega | (dsimp only [lwR]; omega) | (show _ ≤ _; omega), by first | exact Nat.le_of_ble_eq_true rfl | omega | (dsimp only [lwR]; omega) | (show _ ≤ _; omega)⟩) hS_53 (fun q _ h => (ge_mm q) h) (fun q h => (ge_mm q) h) (fun z_71 H_69 locs_66 hz_68 hF_70 hS_67 => ?_)
    have hzf_72 := hF_70.1
    obtain ⟨hv_73, ho_74⟩ := hz_68
    subst z_71
    refine lv_istore (lv' := [(7, .int (kI (0))), (6, .int (kI (1))), (0, .ref b), (1, .ref x1), (2, .ref mm), (3, .ref out), (4, .ref outD), (5, .int (kI ((3 * j : Nat) : Int)))]) hx hb dL_law_402 hl (by decide) rfl (fun ls hl => ?_)
    refine lv_aload_n hx hb dL_law_404 rfl (lv_at hl 4 rfl) ?_
    refine kx_ci0 (va_runV (As := []) (rest := []) ⟨hx, hb, hml, hown, hts⟩ (m_X3_thrown l D H_69 mm ra sa ka ta nh ik t.length (ref_w S z1) sp9 iw le9 fi9 se9 ho_74 ) (cwV 0 hts (lw_V q2278 q2279 q2280 q89 q2281) rfl rfl rfl (by decide +kernel) ⟨Nat.le_of_ble_eq_true rfl, Nat.le_of_ble_eq_true rfl⟩) (kx_pv hK hS_67 hB (kx_rc hK ho_74 (C := RX3) (T := TX3) (N := 13) rfl)) rfl rfl hl.1 rfl (lv_room (Nat.le_of_ble_eq_true rfl)) dL_law_405 ⟨by first | exact Nat.le_of_ble_eq_true rfl | omega | (dsimp only [lwR]; omega) | (show _ ≤ _; omega), by first | exact Nat.le_of_ble_eq_true rfl | omega | (dsimp only [lwR]; omega) | (show _ ≤ _; omega)⟩) hS_67 (fun z_78 locs_75 hz_77 hS_76 => ?_)
    subst z_78
    refine kx_eqi (1) (rw1 hA) ?_
    refine lv_iload hx hb dL_law_408 (lv_at hl 1 rfl) ?_
    refine kx_icmp_eq (x := 1) (y := 1) (tgt := 415) hx hb dL_law_410 (by decide) (by omega) (by omega) (by omega) (by omega) (fun c_410_79 => ?_) (fun c_410_79 => ?_)
    · -- taken at 410
      refine lv_iload hx hb dL_law_415 (lv_at hl 1 rfl) ?_
      refine kx_if_ne (x := 1) (tgt := 432) hx hb dL_law_417 (by decide) (by omega) (by omega) (fun c_417_80 => ?_) (fun c_417_80 => ?_)
      · -- taken at 417
        refine lv_goto (tgt := 2493) hx hb dL_law_432 (by decide) ?_
        have h_81 := h_62.fr hF_70 (n_mm_ra.sm)
        have h_82 := h_63.fr hF_70 (n_mm_sa.sm)
        have h_83 := h_64.fr hF_70 (n_mm_ka.sm)
        have h_84 := h_65.fr hF_70 (n_mm_ta.sm)
        have h_85 := hA_out.ex hF_56
        have h_86 := h_85.fr hF_70 (n_mm_out.sm)
        have h_87 := hA_outD.ex hF_56
        have h_88 := h_87.fr hF_70 (n_mm_outD.sm)
        have h_89 := hW.ex hd9 hF_56
        have h_90 := h_89.fr hd9 hF_70 (fun x => (ty_mm x))
        refine W.widen (k := cells + 50000) (n := slots + 228000) (by omega) (by omega) ?_
        have hM9 : kM D H_69 c0 out mm (S, gap) ((sl.map Prod.snd).head?) (hl2.map Prod.snd) t := ⟨ra, sa, ka, ta, _, _, _, _, _, _, _, _, _, _, _, _, ho_74, h_81, h_82, h_83, h_84, hMr, hMh, hMk, hMt, ht60, hMd, hMb, hMi⟩
        exact kk (S, gap) ((sl.map Prod.snd).head?) (hl2.map Prod.snd) t _ _ _ ⟨hS_76, lv_sub hl [2, 3, 4, 5, 6, 7] rfl, h_90, hM9, ⟨_, h_86⟩, ⟨_, h_88⟩, by omega, by omega⟩
      · -- not taken at 417
        exfalso; omega
    · -- not taken at 410
      exfalso; omega

set_option maxHeartbeats 8000000 in
set_option maxRecDepth 100000 in
theorem lc_setLevel {p : Program} {e : Env} {s : State} {m : MethodId} {below : List Frame} {meth : Method} {c : Code} {l : Launch} {D : kG} {b L c0 c1 x1 mm out outD : Nat} {xs : Nat → Int32} {Q : State → Prop} (C0 : lwC D p l s m meth c b L c0 c1 out outD xs) {j : Nat} (hj : 3 * j + 3 ≤ L) {S : Ls} {gap : Int} {sn : Option Sg} {hs : List Sg} {t : List Int} {H : Heap} {locs : List Loc} {ls : Array Slot} (I0 : lwI D s b c0 c1 x1 mm out outD j j (S, gap) sn hs t H locs ls) {cells slots : Nat} (hcl : cells + 50000 ≤ 1200144) (hsl9 : slots + 228000 ≤ 5496058) (kk : ∀ (σ : Sg) (sn : Option Sg) (hs : List Sg) (t : List Int) (H : Heap) (locs : List Loc) (ls : Array Slot), lwI D s b c0 c1 x1 mm out outD j (j + 1) σ sn hs t H locs ls → W p l e lwR s m #[Value.ref b] below meth c H locs (cells + 50000) (slots + 228000) Q (F0 m 2493 ls [])) : W p l e lwR s m #[Value.ref b] below meth c H locs cells slots Q (F0 m 435 ls []) := by
  obtain ⟨hx, hb, hml, hown, hts, hlk, hK, hl9, hX, hbl, hbs, hL72, hc0, hco, hod, hdc⟩ := C0
  obtain ⟨hS, hl, hW, hM, ⟨go, hA_out⟩, ⟨gd, hA_outD⟩, hc1, htl⟩ := I0
  have hB : ∀ q, (kNW s.heap) q → kBase D ≤ q := fun q h => Nat.le_trans hK.size h
  have hbA : ¬ (kNW s.heap) b := fun h => by have h9 : s.heap.size ≤ b := h; omega
  have hd9 := hK.dis
  have hxE : ¬ kBase D ≤ D.2.2.2 2 := hK.tE.out
  obtain ⟨z1, hz1⟩ : ∃ z, z = (xs (3 * j + 1)).toInt := ⟨_, rfl⟩
  obtain ⟨z2, hz2⟩ : ∃ z, z = (xs (3 * j + 2)).toInt := ⟨_, rfl⟩
  have hr1 : -2147483648 ≤ z1 ∧ z1 ≤ 2147483647 := by rw [hz1]; exact i32r _
  have hr2 : -2147483648 ≤ z2 ∧ z2 ≤ 2147483647 := by rw [hz2]; exact i32r _
  obtain ⟨⟨st, la, ea, F⟩, sl, hl2, hi, es, bu, vb, hO_x1, hDq, hTx, hX5, hev, hAl, hDj, hPw, hsl, hsn, hhs⟩ := id hW
  subst hsn
  subst hhs
  obtain ⟨ra, sa, ka, ta, nh, ik, th, sp9, iw, le9, fi9, se9, g, gs, gk, gt, hO_mm, hA_ra, hA_sa, hA_ka, hA_ta, hMr, hMh, hMk, hMt, ht60, hMd, hMb, hMi⟩ := id hM
  have hMr : MRow g S gap := hMr
  have h0 := hAl _ List.mem_cons_self
  have hP_kState_st : kState D H st la ea gap S F := h0.1
  have hok : LsOK S gap := h0.2.1
  have hG : StG S := h0.2.2.1
  have hL8 : S.length ≤ 8 := hok.1
  have hgp := hok.2.1
  have hO_x1 : kO D H x1 0 [.ref st, va_rf ((sl.map (fun a => a.1.1)).head?), .ref hi, .ref bu] := hO_x1
  have hOw : ∀ q, kOwn D st la ea F S.length q → q ∉ [x1, hi, es, bu, vb] ∧ (q < c0 ∨ c1 ≤ q) := h0.2.2.2
  have hev : Hd (es ≠ vb) := hev
  have io_x1 : ∀ x, c0 ≤ x → x < c1 → x ≠ x1 := fun x => out_of (hX5 x1 (by simp)).2
  have io_hi : ∀ x, c0 ≤ x → x < c1 → x ≠ hi := fun x => out_of (hX5 hi (by simp)).2
  have io_es : ∀ x, c0 ≤ x → x < c1 → x ≠ es := fun x => out_of (hX5 es (by simp)).2
  have io_bu : ∀ x, c0 ≤ x → x < c1 → x ≠ bu := fun x => out_of (hX5 bu (by simp)).2
  have io_vb : ∀ x, c0 ≤ x → x < c1 → x ≠ vb := fun x => out_of (hX5 vb (by simp)).2
  have b_x1 := (hX5 x1 (by simp)).1
  have b_hi := (hX5 hi (by simp)).1
  have b_es := (hX5 es (by simp)).1
  have b_bu := (hX5 bu (by simp)).1
  have b_vb := (hX5 vb (by simp)).1
  obtain ⟨⟨⟨n1, n2, n3, n4⟩, n5, n6, n7⟩, n8, n9, n10⟩ := hMd
  have n_mm_ra : Hd (mm ≠ ra) := n1
  have n_mm_sa : Hd (mm ≠ sa) := n2
  have n_mm_ka : Hd (mm ≠ ka) := n3
  have n_mm_ta : Hd (mm ≠ ta) := n4
  have n_ra_sa : Hd (ra ≠ sa) := n5
  have n_ra_ka : Hd (ra ≠ ka) := n6
  have n_ra_ta : Hd (ra ≠ ta) := n7
  have n_sa_ka : Hd (sa ≠ ka) := n8
  have n_sa_ta : Hd (sa ≠ ta) := n9
  have n_ka_ta : Hd (ka ≠ ta) := n10
  have hMd : Hd (((mm ≠ ra ∧ mm ≠ sa ∧ mm ≠ ka ∧ mm ≠ ta) ∧ ra ≠ sa ∧ ra ≠ ka ∧ ra ≠ ta) ∧ sa ≠ ka ∧ sa ≠ ta ∧ ka ≠ ta) := ⟨⟨⟨n1, n2, n3, n4⟩, n5, n6, n7⟩, n8, n9, n10⟩
  clear n1 n2 n3 n4 n5 n6 n7 n8 n9 n10
  obtain ⟨b_mm, b_ra, b_sa, b_ka, b_ta⟩ := id hMb
  obtain ⟨i_mm, i_ra, i_sa, i_ka, i_ta⟩ := id hMi
  have b_out : kBase D ≤ out := by omega
  have hcc : c0 ≤ c1 := by omega
  have w_mm : mm < c1 := by omega
  have n_mm_out : Hd (mm ≠ out) := Nat.ne_of_lt i_mm.2
  have n_mm_outD : Hd (mm ≠ outD) := Nat.ne_of_lt (Nat.lt_trans i_mm.2 hod)
  have w_ra : ra < c1 := by omega
  have n_ra_out : Hd (ra ≠ out) := Nat.ne_of_lt i_ra.2
  have n_ra_outD : Hd (ra ≠ outD) := Nat.ne_of_lt (Nat.lt_trans i_ra.2 hod)
  have w_sa : sa < c1 := by omega
  have n_sa_out : Hd (sa ≠ out) := Nat.ne_of_lt i_sa.2
  have n_sa_outD : Hd (sa ≠ outD) := Nat.ne_of_lt (Nat.lt_trans i_sa.2 hod)
  have w_ka : ka < c1 := by omega
  have n_ka_out : Hd (ka ≠ out) := Nat.ne_of_lt i_ka.2
  have n_ka_outD : Hd (ka ≠ outD) := Nat.ne_of_lt (Nat.lt_trans i_ka.2 hod)
  have w_ta : ta < c1 := by omega
  have n_ta_out : Hd (ta ≠ out) := Nat.ne_of_lt i_ta.2
  have n_ta_outD : Hd (ta ≠ outD) := Nat.ne_of_lt (Nat.lt_trans i_ta.2 hod)
  have ge_mm : ∀ q, q = mm → kNW s.heap q := fun q h => by rw [h]; show s.heap.size ≤ mm; omega
  have ge_ra : ∀ q, q = ra → kNW s.heap q := fun q h => by rw [h]; show s.heap.size ≤ ra; omega
  have ge_sa : ∀ q, q = sa → kNW s.heap q := fun q h => by rw [h]; show s.heap.size ≤ sa; omega
  have ge_ka : ∀ q, q = ka → kNW s.heap q := fun q h => by rw [h]; show s.heap.size ≤ ka; omega
  have ge_ta : ∀ q, q = ta → kNW s.heap q := fun q h => by rw [h]; show s.heap.size ≤ ta; omega
  have ge_out : ∀ q, q = out → kNW s.heap q := fun q h => by rw [h]; show s.heap.size ≤ out; omega
  have n_out_outD : Hd (out ≠ outD) := Nat.ne_of_lt hod
  have w_out : out < c1 := by omega
  have w_outD : outD < c1 := hdc
  have i_outD : c0 ≤ outD := by omega
  have htyo : kTy D H out := Or.inr ⟨2, _, by decide, hA_out⟩
  have htyd : kTy D H outD := Or.inr ⟨3, _, by decide, hA_outD⟩
  have to_out : ∀ x, x = out → H.size ≤ x ∨ (kTy D H x ∧ c0 ≤ x ∧ x < c1) := fun x h => by rw [h]; exact Or.inr ⟨htyo, hco, w_out⟩
  have to_outD : ∀ x, x = outD → H.size ≤ x ∨ (kTy D H x ∧ c0 ≤ x ∧ x < c1) := fun x h => by rw [h]; exact Or.inr ⟨htyd, i_outD, w_outD⟩
  obtain ⟨⟨hO_st, mc9, hO_la⟩, hLs9, hLn9, hF9, hDs9, hb1, hb2, hb3⟩ := id hP_kState_st
  have hnx : ∀ q, kOwn D st la ea F S.length q → q ≠ hi ∧ q ≠ es ∧ q ≠ x1 := fun q hq => by
    have h9 := (hOw q hq).1
    simp only [List.mem_cons, List.not_mem_nil, or_false, not_or] at h9
    exact ⟨h9.2.1, h9.2.2.1, h9.1⟩
  have hnO9 : ∀ q, kOwn D st la ea F S.length q → q ≠ out := fun q hq => (out_of (hOw q hq).2 hco w_out).symm
  have nex : Hd (x1 ≠ hi ∧ x1 ≠ es) := by
    obtain ⟨_, _, _, y1, y2, _⟩ := hDq
    exact ⟨(kO_ne hd9 y1 hO_x1 (by decide) (by decide) (by decide)).symm, kOA_ne hd9 hO_x1 y2 (by decide) (by decide)⟩
  have neo : Hd (hi ≠ out ∧ es ≠ out ∧ x1 ≠ out) := ⟨(io_hi out hco w_out).symm, (io_es out hco w_out).symm, (io_x1 out hco w_out).symm⟩
  by_cases hA : 0 ≤ z1 ∧ z1 < (S.length : Int)
  · -- hA
    obtain ⟨ln9, hv1⟩ : ∃ k : Nat, z1 = (k : Int) := ⟨z1.toNat, by omega⟩
    have hln : ln9 < S.length := by omega
    have hLn := hok.ln hln
    by_cases hA2 : 0 ≤ z2 ∧ z2 ≤ 99
    · -- hA2
      have hr9 := hLn.lv
      have hrv : -2147483648 ≤ ln_lv (st_ln S ln9) ∧ ln_lv (st_ln S ln9) ≤ 2147483647 := ⟨by omega, by omega⟩
      refine lv_aload_n hx hb dL_law_435 rfl (lv_at hl 1 rfl) ?_
      refine lv_aload_n hx hb dL_law_436 rfl (lv_at hl 0 rfl) ?_
      refine lv_iload hx hb dL_law_437 (lv_at hl 5 rfl) ?_
      refine kx_iconst hx hb dL_law_439 ?_
      refine kx_iadd hx hb dL_law_440 ?_
      refine kx_sld (i := (((3 * j : Nat) : Int) + 1)) hx hb hX hbl hbA hS (3 * j + 1) (by omega) (by omega) (by omega) dL_law_441 ?_
      refine kx_eqi (((ln9 : Nat) : Int)) (hz1.symm.trans hv1) ?_
      refine lv_aload_n hx hb dL_law_442 rfl (lv_at hl 0 rfl) ?_
      refine lv_iload hx hb dL_law_443 (lv_at hl 5 rfl) ?_
      refine kx_iconst hx hb dL_law_445 ?_
      refine kx_iadd hx hb dL_law_446 ?_
      refine kx_sld (i := (((3 * j : Nat) : Int) + 2)) hx hb hX hbl hbA hS (3 * j + 2) (by omega) (by omega) (by omega) dL_law_447 ?_
      refine kx_eqi (z2) (hz2.symm) ?_
      refine lv_aload_n hx hb dL_law_448 rfl (lv_at hl 3 rfl) ?_
      refine kx_ci (vx_runSW (As := [.ref x1, .int (kI ((ln9 : Nat) : Int)), .int (kI (z2)), .ref out]) (rest := []) ⟨hx, hb, hml, hown, hts⟩ (wr_setLevel l hl9 D H x1 ((sl.map (fun a => a.1.1)).head?) hi bu es ((hl2.map (fun a => a.1.1))) st la ea F S gap ln9 z2 out go hO_x1 hP_kState_st hDq hA_out (by first | assumption | omega) (by first | assumption | omega) (by first | assumption | omega) (by first | assumption | omega) nex (by first | assumption | omega) (by first | assumption | omega) (by first | assumption | omega) (by first | assumption | omega) neo (by first | assumption | omega)) (vx_cwSW 4 hts (lw_SW q1882 q1883 q78 q1884) rfl rfl rfl (by decide +kernel) ⟨Nat.le_of_ble_eq_true rfl, Nat.le_of_ble_eq_true rfl⟩) (kx_ps hK hS hB) rfl rfl hl.1 rfl (lv_room (Nat.le_of_ble_eq_true rfl)) dL_law_449 ⟨by first | exact Nat.le_of_ble_eq_true rfl | omega | (dsimp only [lwR]; omega) | (show _ ≤ _; omega), by first | exact Nat.le_of_ble_eq_true rfl | omega | (dsimp only [lwR]; omega) | (show _ ≤ _; omega)⟩) hS (fun q _ h => (fun h => Or.elim h (ge_out q) (fun h => Or.elim h (fun h => by have h8 := hP_kState_st.ownge h; show s.heap.size ≤ q; omega) (fun h => Or.elim h (fun h => by rw [h]; show s.heap.size ≤ hi; omega) (fun h => Or.elim h (fun h => by rw [h]; show s.heap.size ≤ es; omega) (fun h => Nat.le_trans hS.1 h))))) h) (fun q h => (fun h => Or.elim h (ge_out q) (fun h => Or.elim h (fun h => by have h8 := hP_kState_st.ownge h; show s.heap.size ≤ q; omega) (fun h => Or.elim h (fun h => by rw [h]; show s.heap.size ≤ hi; omega) (fun h => Or.elim h (fun h => by rw [h]; show s.heap.size ≤ es; omega) (fun h => Nat.le_trans hS.1 h))))) h) (fun z_6 H_4 locs_1 hz_3 hF_5 hS_2 => ?_)
      have hzf_7 := hF_5.1
      obtain ⟨crw, la2w, ea2w, F2w, ea3w, F3w, hv_14, ho_15, ho_16, ho_17, ho_18, ho_19, hw1, hw2, hw3⟩ := hz_3
      subst z_6
      have hW9 : kW D H_4 c0 c1 x1 (S.set ln9 (w_lv (st_ln S ln9) z2), gap) ((sl.map Prod.snd).head?) (pushH (hl2.map Prod.snd) (S, gap)) t := kW.change (out := out) hd9 hxE hO_x1 hDq hTx hX5 hev hAl hDj hPw hsl hF_5 htyo ⟨hco, w_out⟩ hc1 ho_15 ho_16 ho_17 ho_18 hw1 hw2 hw3 (hok.set hln (hLn.setLv hA2)) (hG.set hln rfl rfl)
      refine lv_istore (lv' := [(6, .int (kI (0))), (0, .ref b), (1, .ref x1), (2, .ref mm), (3, .ref out), (4, .ref outD), (5, .int (kI ((3 * j : Nat) : Int)))]) hx hb dL_law_452 hl (by decide) rfl (fun ls hl => ?_)
      refine lv_aload_n hx hb dL_law_454 rfl (lv_at hl 3 rfl) ?_
      refine lv_aload_n hx hb dL_law_455 rfl (lv_at hl 1 rfl) ?_
      refine lv_iload hx hb dL_law_456 (lv_at hl 6 rfl) ?_
      refine kx_iconst hx hb dL_law_458 ?_
      refine kx_iadd hx hb dL_law_459 ?_
      refine kx_sld (i := (((3 * j : Nat) : Int) + 1)) hx hb hX hbl hbA hS_2 (3 * j + 1) (by omega) (by omega) (by omega) dL_law_460 ?_
      refine kx_eqi (((ln9 : Nat) : Int)) (hz1.symm.trans hv1) ?_
      refine lv_aload_n hx hb dL_law_461 rfl (lv_at hl 1 rfl) ?_
      refine lv_iload hx hb dL_law_462 (lv_at hl 6 rfl) ?_
      refine kx_iconst hx hb dL_law_464 ?_
      refine kx_iadd hx hb dL_law_465 ?_
      refine kx_sld (i := (((3 * j : Nat) : Int) + 2)) hx hb hX hbl hbA hS_2 (3 * j + 2) (by omega) (by omega) (by omega) dL_law_466 ?_
      refine kx_eqi (z2) (hz2.symm) ?_
      have h_20 := hO_mm.fr hF_5 (fun h => Or.elim h (n_mm_out) (fun h => Or.elim h (fun h => out_of (hOw _ h).2 i_mm.1 w_mm rfl) (fun h => Or.elim h (io_hi _ i_mm.1 w_mm) (fun h => Or.elim h (io_es _ i_mm.1 w_mm) (fun h => Nat.not_le_of_gt hO_mm.lt h)))))
      have h_21 := hA_ra.fr hF_5 (fun h => Or.elim h (n_ra_out) (fun h => Or.elim h (fun h => out_of (hOw _ h).2 i_ra.1 w_ra rfl) (fun h => Or.elim h (io_hi _ i_ra.1 w_ra) (fun h => Or.elim h (io_es _ i_ra.1 w_ra) (fun h => Nat.not_le_of_gt hA_ra.lt h)))))
      have h_22 := hA_sa.fr hF_5 (fun h => Or.elim h (n_sa_out) (fun h => Or.elim h (fun h => out_of (hOw _ h).2 i_sa.1 w_sa rfl) (fun h => Or.elim h (io_hi _ i_sa.1 w_sa) (fun h => Or.elim h (io_es _ i_sa.1 w_sa) (fun h => Nat.not_le_of_gt hA_sa.lt h)))))
      have h_23 := hA_ka.fr hF_5 (fun h => Or.elim h (n_ka_out) (fun h => Or.elim h (fun h => out_of (hOw _ h).2 i_ka.1 w_ka rfl) (fun h => Or.elim h (io_hi _ i_ka.1 w_ka) (fun h => Or.elim h (io_es _ i_ka.1 w_ka) (fun h => Nat.not_le_of_gt hA_ka.lt h)))))
      have h_24 := hA_ta.fr hF_5 (fun h => Or.elim h (n_ta_out) (fun h => Or.elim h (fun h => out_of (hOw _ h).2 i_ta.1 w_ta rfl) (fun h => Or.elim h (io_hi _ i_ta.1 w_ta) (fun h => Or.elim h (io_es _ i_ta.1 w_ta) (fun h => Nat.not_le_of_gt hA_ta.lt h)))))
      have ty_mm : ∀ x, x = mm → H_4.size ≤ x ∨ (kTy D H_4 x ∧ c0 ≤ x ∧ x < c1) := fun x h => by rw [h]; exact Or.inr ⟨Or.inl ⟨2, _, by decide, by decide, by decide, h_20⟩, i_mm.1, w_mm⟩
      have ty_ra : ∀ x, x = ra → H_4.size ≤ x ∨ (kTy D H_4 x ∧ c0 ≤ x ∧ x < c1) := fun x h => by rw [h]; exact Or.inr ⟨Or.inr ⟨0, _, by decide, h_21⟩, i_ra.1, w_ra⟩
      have ty_sa : ∀ x, x = sa → H_4.size ≤ x ∨ (kTy D H_4 x ∧ c0 ≤ x ∧ x < c1) := fun x h => by rw [h]; exact Or.inr ⟨Or.inr ⟨0, _, by decide, h_22⟩, i_sa.1, w_sa⟩
      refine kx_ci (va_runV (As := [.int (kI ((ln9 : Nat) : Int)), .int (kI (z2))]) (rest := []) ⟨hx, hb, hml, hown, hts⟩ (m_X3_setLevel l D H_4 mm ra sa ka ta nh ik t.length th sp9 iw le9 fi9 se9 g gs S gap ((hl2.map Prod.snd)) ln9 z2 h_20 h_21 h_22 (by first | assumption | omega) (by first | assumption | omega) (by first | assumption | omega) n_mm_ra n_mm_sa n_ra_sa b_mm b_ra b_sa (by first | assumption | omega) (by first | assumption | omega)) (cwV 2 hts (lw_V q2419 q2420 q2421 q89 q2422) rfl rfl rfl (by decide +kernel) ⟨Nat.le_of_ble_eq_true rfl, Nat.le_of_ble_eq_true rfl⟩) (kx_pv hK hS_2 hB (kx_rc hK h_20 (C := RX3) (T := TX3) (N := 13) rfl)) rfl rfl hl.1 rfl (lv_room (Nat.le_of_ble_eq_true rfl)) dL_law_467 ⟨by first | exact Nat.le_of_ble_eq_true rfl | omega | (dsimp only [lwR]; omega) | (show _ ≤ _; omega), by first | exact Nat.le_of_ble_eq_true rfl | omega | (dsimp only [lwR]; omega) | (show _ ≤ _; omega)⟩) hS_2 (fun q _ h => (fun h => Or.elim h (ge_mm q) (fun h => Or.elim h (ge_ra q) (ge_sa q))) h) (fun q h => (fun h => Or.elim h (ge_mm q) (fun h => Or.elim h (ge_ra q) (ge_sa q))) h) (fun z_30 H_28 locs_25 hz_27 hF_29 hS_26 => ?_)
      have hzf_31 := hF_29.1
      obtain ⟨g2_32, gs2_33, sn2_34, hv_35, ho_36, ho_37, ho_38, hM29, hH29⟩ := hz_27
      subst z_30
      refine lv_istore (lv' := [(7, .int (kI (ln_lv (st_ln S ln9)))), (6, .int (kI (0))), (0, .ref b), (1, .ref x1), (2, .ref mm), (3, .ref out), (4, .ref outD), (5, .int (kI ((3 * j : Nat) : Int)))]) hx hb dL_law_470 hl (by decide) rfl (fun ls hl => ?_)
      refine lv_aload_n hx hb dL_law_472 rfl (lv_at hl 4 rfl) ?_
      refine kx_ci0 (va_runV (As := []) (rest := []) ⟨hx, hb, hml, hown, hts⟩ (m_X3_thrown l D H_28 mm ra sa ka ta sn2_34 ik t.length 0 sp9 iw le9 fi9 se9 ho_36 ) (cwV 0 hts (lw_V q2278 q2279 q2280 q89 q2281) rfl rfl rfl (by decide +kernel) ⟨Nat.le_of_ble_eq_true rfl, Nat.le_of_ble_eq_true rfl⟩) (kx_pv hK hS_26 hB (kx_rc hK ho_36 (C := RX3) (T := TX3) (N := 13) rfl)) rfl rfl hl.1 rfl (lv_room (Nat.le_of_ble_eq_true rfl)) dL_law_473 ⟨by first | exact Nat.le_of_ble_eq_true rfl | omega | (dsimp only [lwR]; omega) | (show _ ≤ _; omega), by first | exact Nat.le_of_ble_eq_true rfl | omega | (dsimp only [lwR]; omega) | (show _ ≤ _; omega)⟩) hS_26 (fun z_42 locs_39 hz_41 hS_40 => ?_)
      subst z_42
      refine lv_iload hx hb dL_law_476 (lv_at hl 1 rfl) ?_
      refine kx_icmp_eq (x := 0) (y := 0) (tgt := 483) hx hb dL_law_478 (by decide) (by omega) (by omega) (by omega) (by omega) (fun c_478_43 => ?_) (fun c_478_43 => ?_)
      · -- taken at 478
        refine lv_iload hx hb dL_law_483 (lv_at hl 1 rfl) ?_
        refine kx_if_ne (x := 0) (tgt := 500) hx hb dL_law_485 (by decide) (by omega) (by omega) (fun c_485_44 => ?_) (fun c_485_44 => ?_)
        · -- taken at 485
          exfalso; omega
        · -- not taken at 485
          refine lv_aload_n hx hb dL_law_488 rfl (lv_at hl 5 rfl) ?_
          refine kx_iconst hx hb dL_law_489 ?_
          have h_45 := ho_19.fr hF_29 (fun h => Or.elim h (n_mm_out.sm) (fun h => Or.elim h (n_ra_out.sm) (n_sa_out.sm)))
          refine kx_lald (i := 0) hx hb hK h_45 0 rfl (by decide) (by decide) dL_law_490 ?_
          refine lv_iload hx hb dL_law_491 (lv_at hl 0 rfl) ?_
          refine kx_i2l hx hb (z := ln_lv (st_ln S ln9)) (by omega) (by omega) dL_law_493 ?_
          refine kx_lcmpE hx hb (x := ((kup go 0 (kL (ln_lv (st_ln S ln9))))) 0) (y := kL (ln_lv (st_ln S ln9))) (kup_self _ _ _) dL_law_494 ?_
          refine kx_if_eq (x := 0) (tgt := 500) hx hb dL_law_495 (by decide) (by omega) (by omega) (fun c_495_46 => ?_) (fun c_495_46 => ?_)
          · -- taken at 495
            refine lv_goto (tgt := 2493) hx hb dL_law_500 (by decide) ?_
            have h_47 := h_23.fr hF_29 (fun h => Or.elim h (n_mm_ka.sm) (fun h => Or.elim h (n_ra_ka.sm) (n_sa_ka.sm)))
            have h_48 := h_24.fr hF_29 (fun h => Or.elim h (n_mm_ta.sm) (fun h => Or.elim h (n_ra_ta.sm) (n_sa_ta.sm)))
            have h_49 := hA_outD.fr hF_5 (fun h => Or.elim h (n_out_outD.sm) (fun h => Or.elim h (fun h => out_of (hOw _ h).2 i_outD w_outD rfl) (fun h => Or.elim h (io_hi _ i_outD w_outD) (fun h => Or.elim h (io_es _ i_outD w_outD) (fun h => Nat.not_le_of_gt hA_outD.lt h)))))
            have h_50 := h_49.fr hF_29 (fun h => Or.elim h (n_mm_outD.sm) (fun h => Or.elim h (n_ra_outD.sm) (n_sa_outD.sm)))
            have h_51 := hW9.fr hd9 hF_29 (fun x => (fun h => Or.elim h (ty_mm x) (fun h => Or.elim h (ty_ra x) (ty_sa x))))
            refine W.widen (k := cells + 50000) (n := slots + 228000) (by omega) (by omega) ?_
            have hM9 : kM D H_28 c0 out mm (S.set ln9 (w_lv (st_ln S ln9) z2), gap) ((sl.map Prod.snd).head?) (pushH (hl2.map Prod.snd) (S, gap)) t := ⟨ra, sa, ka, ta, _, _, _, _, _, _, _, _, _, _, _, _, ho_36, ho_37, ho_38, h_47, h_48, hM29, hH29, hMk, hMt, ht60, hMd, hMb, hMi⟩
            exact kk (S.set ln9 (w_lv (st_ln S ln9) z2), gap) ((sl.map Prod.snd).head?) (pushH (hl2.map Prod.snd) (S, gap)) t _ _ _ ⟨hS_40, lv_sub hl [2, 3, 4, 5, 6, 7] rfl, h_51, hM9, ⟨_, h_45⟩, ⟨_, h_50⟩, by omega, by omega⟩
          · -- not taken at 495
            exfalso; omega
      · -- not taken at 478
        exfalso; omega
    · -- hA2
      refine lv_aload_n hx hb dL_law_435 rfl (lv_at hl 1 rfl) ?_
      refine lv_aload_n hx hb dL_law_436 rfl (lv_at hl 0 rfl) ?_
      refine lv_iload hx hb dL_law_437 (lv_at hl 5 rfl) ?_
      refine kx_iconst hx hb dL_law_439 ?_
      refine kx_iadd hx hb dL_law_440 ?_
      refine kx_sld (i := (((3 * j : Nat) : Int) + 1)) hx hb hX hbl hbA hS (3 * j + 1) (by omega) (by omega) (by omega) dL_law_441 ?_
      refine kx_eqi (((ln9 : Nat) : Int)) (hz1.symm.trans hv1) ?_
      refine lv_aload_n hx hb dL_law_442 rfl (lv_at hl 0 rfl) ?_
      refine lv_iload hx hb dL_law_443 (lv_at hl 5 rfl) ?_
      refine kx_iconst hx hb dL_law_445 ?_
      refine kx_iadd hx hb dL_law_446 ?_
      refine kx_sld (i := (((3 * j : Nat) : Int) + 2)) hx hb hX hbl hbA hS (3 * j + 2) (by omega) (by omega) (by omega) dL_law_447 ?_
      refine kx_eqi (z2) (hz2.symm) ?_
      refine lv_aload_n hx hb dL_law_448 rfl (lv_at hl 3 rfl) ?_
      refine kx_ci (vx_runSW (As := [.ref x1, .int (kI ((ln9 : Nat) : Int)), .int (kI (z2)), .ref out]) (rest := []) ⟨hx, hb, hml, hown, hts⟩ (wx_setLevel_2 l hl9 D H x1 ((sl.map (fun a => a.1.1)).head?) hi bu st la mc9 ea F S gap ln9 z2 out hO_x1 hO_st hO_la hLs9 hLn9 (by first | assumption | omega) (by first | assumption | omega) (by first | assumption | omega) (by first | assumption | omega)) (vx_cwSW 4 hts (lw_SW q1882 q1883 q78 q1884) rfl rfl rfl (by decide +kernel) ⟨Nat.le_of_ble_eq_true rfl, Nat.le_of_ble_eq_true rfl⟩) (kx_ps hK hS hB) rfl rfl hl.1 rfl (lv_room (Nat.le_of_ble_eq_true rfl)) dL_law_449 ⟨by first | exact Nat.le_of_ble_eq_true rfl | omega | (dsimp only [lwR]; omega) | (show _ ≤ _; omega), by first | exact Nat.le_of_ble_eq_true rfl | omega | (dsimp only [lwR]; omega) | (show _ ≤ _; omega)⟩) hS (fun q _ h => by have h9 := hS.1; (try dsimp only at h); (try dsimp only); (try simp only [kNW] at h); (try simp only [kNW]); omega) (fun q h => by have h9 := hS.1; (try dsimp only at h); (try dsimp only); (try simp only [kNW] at h); (try simp only [kNW]); omega) (fun z_57 H_55 locs_52 hz_54 hF_56 hS_53 => ?_)
      have hzf_58 := hF_56.1
      have hF_56 := hF_56.nw
      obtain ⟨hv_59, hnw_60⟩ := hz_54
      subst z_57
      refine lv_istore (lv' := [(6, .int (kI (2))), (0, .ref b), (1, .ref x1), (2, .ref mm), (3, .ref out), (4, .ref outD), (5, .int (kI ((3 * j : Nat) : Int)))]) hx hb dL_law_452 hl (by decide) rfl (fun ls hl => ?_)
      refine lv_aload_n hx hb dL_law_454 rfl (lv_at hl 3 rfl) ?_
      refine lv_aload_n hx hb dL_law_455 rfl (lv_at hl 1 rfl) ?_
      refine lv_iload hx hb dL_law_456 (lv_at hl 6 rfl) ?_
      refine kx_iconst hx hb dL_law_458 ?_
      refine kx_iadd hx hb dL_law_459 ?_
      refine kx_sld (i := (((3 * j : Nat) : Int) + 1)) hx hb hX hbl hbA hS_53 (3 * j + 1) (by omega) (by omega) (by omega) dL_law_460 ?_
      refine kx_eqi (((ln9 : Nat) : Int)) (hz1.symm.trans hv1) ?_
      refine lv_aload_n hx hb dL_law_461 rfl (lv_at hl 1 rfl) ?_
      refine lv_iload hx hb dL_law_462 (lv_at hl 6 rfl) ?_
      refine kx_iconst hx hb dL_law_464 ?_
      refine kx_iadd hx hb dL_law_465 ?_
      refine kx_sld (i := (((3 * j : Nat) : Int) + 2)) hx hb hX hbl hbA hS_53 (3 * j + 2) (by omega) (by omega) (by omega) dL_law_466 ?_
      refine kx_eqi (z2) (hz2.symm) ?_
      have h_61 := hO_mm.ex hF_56
      have h_62 := hA_ra.ex hF_56
      have h_63 := hA_sa.ex hF_56
      have h_64 := hA_ka.ex hF_56
      have h_65 := hA_ta.ex hF_56
      have ty_mm : ∀ x, x = mm → H_55.size ≤ x ∨ (kTy D H_55 x ∧ c0 ≤ x ∧ x < c1) := fun x h => by rw [h]; exact Or.inr ⟨Or.inl ⟨2, _, by decide, by decide, by decide, h_61⟩, i_mm.1, w_mm⟩
      refine kx_ci (va_runV (As := [.int (kI ((ln9 : Nat) : Int)), .int (kI (z2))]) (rest := []) ⟨hx, hb, hml, hown, hts⟩ (m_X3_setLevel_no2 l D H_55 mm ra sa ka ta nh ik t.length th sp9 iw le9 fi9 se9 g gs S gap ((hl2.map Prod.snd)) ln9 z2 h_61 h_62 h_63 (by first | assumption | omega) (by first | assumption | omega) (by first | assumption | omega) n_mm_ra n_mm_sa n_ra_sa b_mm b_ra b_sa (by first | assumption | omega) (by first | assumption | omega) (by first | assumption | omega)) (cwV 2 hts (lw_V q2419 q2420 q2421 q89 q2422) rfl rfl rfl (by decide +kernel) ⟨Nat.le_of_ble_eq_true rfl, Nat.le_of_ble_eq_true rfl⟩) (kx_pv hK hS_53 hB (kx_rc hK h_61 (C := RX3) (T := TX3) (N := 13) rfl)) rfl rfl hl.1 rfl (lv_room (Nat.le_of_ble_eq_true rfl)) dL_law_467 ⟨by first | exact Nat.le_of_ble_eq_true rfl | omega | (dsimp only [lwR]; omega) | (show _ ≤ _; omega), by first | exact Nat.le_of_ble_eq_true rfl | omega | (dsimp only [lwR]; omega) | (show _ ≤ _; omega)⟩) hS_53 (fun q _ h => (ge_mm q) h) (fun q h => (ge_mm q) h) (fun z_71 H_69 locs_66 hz_68 hF_70 hS_67 => ?_)
      have hzf_72 := hF_70.1
      obtain ⟨hv_73, ho_74⟩ := hz_68
      subst z_71
      refine lv_istore (lv' := [(7, .int (kI (0))), (6, .int (kI (2))), (0, .ref b), (1, .ref x1), (2, .ref mm), (3, .ref out), (4, .ref outD), (5, .int (kI ((3 * j : Nat) : Int)))]) hx hb dL_law_470 hl (by decide) rfl (fun ls hl => ?_)
      refine lv_aload_n hx hb dL_law_472 rfl (lv_at hl 4 rfl) ?_
      refine kx_ci0 (va_runV (As := []) (rest := []) ⟨hx, hb, hml, hown, hts⟩ (m_X3_thrown l D H_69 mm ra sa ka ta nh ik t.length 2 sp9 iw le9 fi9 se9 ho_74 ) (cwV 0 hts (lw_V q2278 q2279 q2280 q89 q2281) rfl rfl rfl (by decide +kernel) ⟨Nat.le_of_ble_eq_true rfl, Nat.le_of_ble_eq_true rfl⟩) (kx_pv hK hS_67 hB (kx_rc hK ho_74 (C := RX3) (T := TX3) (N := 13) rfl)) rfl rfl hl.1 rfl (lv_room (Nat.le_of_ble_eq_true rfl)) dL_law_473 ⟨by first | exact Nat.le_of_ble_eq_true rfl | omega | (dsimp only [lwR]; omega) | (show _ ≤ _; omega), by first | exact Nat.le_of_ble_eq_true rfl | omega | (dsimp only [lwR]; omega) | (show _ ≤ _; omega)⟩) hS_67 (fun z_78 locs_75 hz_77 hS_76 => ?_)
      subst z_78
      refine lv_iload hx hb dL_law_476 (lv_at hl 1 rfl) ?_
      refine kx_icmp_eq (x := 2) (y := 2) (tgt := 483) hx hb dL_law_478 (by decide) (by omega) (by omega) (by omega) (by omega) (fun c_478_79 => ?_) (fun c_478_79 => ?_)
      · -- taken at 478
        refine lv_iload hx hb dL_law_483 (lv_at hl 1 rfl) ?_
        refine kx_if_ne (x := 2) (tgt := 500) hx hb dL_law_485 (by decide) (by omega) (by omega) (fun c_485_80 => ?_) (fun c_485_80 => ?_)
        · -- taken at 485
          refine lv_goto (tgt := 2493) hx hb dL_law_500 (by decide) ?_
          have h_81 := h_62.fr hF_70 (n_mm_ra.sm)
          have h_82 := h_63.fr hF_70 (n_mm_sa.sm)
          have h_83 := h_64.fr hF_70 (n_mm_ka.sm)
          have h_84 := h_65.fr hF_70 (n_mm_ta.sm)
          have h_85 := hA_out.ex hF_56
          have h_86 := h_85.fr hF_70 (n_mm_out.sm)
          have h_87 := hA_outD.ex hF_56
          have h_88 := h_87.fr hF_70 (n_mm_outD.sm)
          have h_89 := hW.ex hd9 hF_56
          have h_90 := h_89.fr hd9 hF_70 (fun x => (ty_mm x))
          refine W.widen (k := cells + 50000) (n := slots + 228000) (by omega) (by omega) ?_
          have hM9 : kM D H_69 c0 out mm (S, gap) ((sl.map Prod.snd).head?) (hl2.map Prod.snd) t := ⟨ra, sa, ka, ta, _, _, _, _, _, _, _, _, _, _, _, _, ho_74, h_81, h_82, h_83, h_84, hMr, hMh, hMk, hMt, ht60, hMd, hMb, hMi⟩
          exact kk (S, gap) ((sl.map Prod.snd).head?) (hl2.map Prod.snd) t _ _ _ ⟨hS_76, lv_sub hl [2, 3, 4, 5, 6, 7] rfl, h_90, hM9, ⟨_, h_86⟩, ⟨_, h_88⟩, by omega, by omega⟩
        · -- not taken at 485
          exfalso; omega
      · -- not taken at 478
        exfalso; omega
  · -- hA
    refine lv_aload_n hx hb dL_law_435 rfl (lv_at hl 1 rfl) ?_
    refine lv_aload_n hx hb dL_law_436 rfl (lv_at hl 0 rfl) ?_
    refine lv_iload hx hb dL_law_437 (lv_at hl 5 rfl) ?_
    refine kx_iconst hx hb dL_law_439 ?_
    refine kx_iadd hx hb dL_law_440 ?_
    refine kx_sld (i := (((3 * j : Nat) : Int) + 1)) hx hb hX hbl hbA hS (3 * j + 1) (by omega) (by omega) (by omega) dL_law_441 ?_
    refine kx_eqi (z1) (hz1.symm) ?_
    refine lv_aload_n hx hb dL_law_442 rfl (lv_at hl 0 rfl) ?_
    refine lv_iload hx hb dL_law_443 (lv_at hl 5 rfl) ?_
    refine kx_iconst hx hb dL_law_445 ?_
    refine kx_iadd hx hb dL_law_446 ?_
    refine kx_sld (i := (((3 * j : Nat) : Int) + 2)) hx hb hX hbl hbA hS (3 * j + 2) (by omega) (by omega) (by omega) dL_law_447 ?_
    refine kx_eqi (z2) (hz2.symm) ?_
    refine lv_aload_n hx hb dL_law_448 rfl (lv_at hl 3 rfl) ?_
    refine kx_ci (vx_runSW (As := [.ref x1, .int (kI (z1)), .int (kI (z2)), .ref out]) (rest := []) ⟨hx, hb, hml, hown, hts⟩ (wx_setLevel l hl9 D H x1 ((sl.map (fun a => a.1.1)).head?) hi bu st la mc9 ea F S gap z1 z2 out hO_x1 hO_st hO_la hLs9 hLn9 (by first | assumption | omega) (by first | assumption | omega) (by first | assumption | omega)) (vx_cwSW 4 hts (lw_SW q1882 q1883 q78 q1884) rfl rfl rfl (by decide +kernel) ⟨Nat.le_of_ble_eq_true rfl, Nat.le_of_ble_eq_true rfl⟩) (kx_ps hK hS hB) rfl rfl hl.1 rfl (lv_room (Nat.le_of_ble_eq_true rfl)) dL_law_449 ⟨by first | exact Nat.le_of_ble_eq_true rfl | omega | (dsimp only [lwR]; omega) | (show _ ≤ _; omega), by first | exact Nat.le_of_ble_eq_true rfl | omega | (dsimp only [lwR]; omega) | (show _ ≤ _; omega)⟩) hS (fun q _ h => by have h9 := hS.1; (try dsimp only at h); (try dsimp only); (try simp only [kNW] at h); (try simp only [kNW]); omega) (fun q h => by have h9 := hS.1; (try dsimp only at h); (try dsimp only); (try simp only [kNW] at h); (try simp only [kNW]); omega) (fun z_96 H_94 locs_91 hz_93 hF_95 hS_92 => ?_)
    have hzf_97 := hF_95.1
    have hF_95 := hF_95.nw
    obtain ⟨hv_98, hnw_99⟩ := hz_93
    subst z_96
    refine lv_istore (lv' := [(6, .int (kI (1))), (0, .ref b), (1, .ref x1), (2, .ref mm), (3, .ref out), (4, .ref outD), (5, .int (kI ((3 * j : Nat) : Int)))]) hx hb dL_law_452 hl (by decide) rfl (fun ls hl => ?_)
    refine lv_aload_n hx hb dL_law_454 rfl (lv_at hl 3 rfl) ?_
    refine lv_aload_n hx hb dL_law_455 rfl (lv_at hl 1 rfl) ?_
    refine lv_iload hx hb dL_law_456 (lv_at hl 6 rfl) ?_
    refine kx_iconst hx hb dL_law_458 ?_
    refine kx_iadd hx hb dL_law_459 ?_
    refine kx_sld (i := (((3 * j : Nat) : Int) + 1)) hx hb hX hbl hbA hS_92 (3 * j + 1) (by omega) (by omega) (by omega) dL_law_460 ?_
    refine kx_eqi (z1) (hz1.symm) ?_
    refine lv_aload_n hx hb dL_law_461 rfl (lv_at hl 1 rfl) ?_
    refine lv_iload hx hb dL_law_462 (lv_at hl 6 rfl) ?_
    refine kx_iconst hx hb dL_law_464 ?_
    refine kx_iadd hx hb dL_law_465 ?_
    refine kx_sld (i := (((3 * j : Nat) : Int) + 2)) hx hb hX hbl hbA hS_92 (3 * j + 2) (by omega) (by omega) (by omega) dL_law_466 ?_
    refine kx_eqi (z2) (hz2.symm) ?_
    have h_100 := hO_mm.ex hF_95
    have h_101 := hA_ra.ex hF_95
    have h_102 := hA_sa.ex hF_95
    have h_103 := hA_ka.ex hF_95
    have h_104 := hA_ta.ex hF_95
    have ty_mm : ∀ x, x = mm → H_94.size ≤ x ∨ (kTy D H_94 x ∧ c0 ≤ x ∧ x < c1) := fun x h => by rw [h]; exact Or.inr ⟨Or.inl ⟨2, _, by decide, by decide, by decide, h_100⟩, i_mm.1, w_mm⟩
    refine kx_ci (va_runV (As := [.int (kI (z1)), .int (kI (z2))]) (rest := []) ⟨hx, hb, hml, hown, hts⟩ (m_X3_setLevel_no1 l D H_94 mm ra sa ka ta nh ik t.length th sp9 iw le9 fi9 se9 g gs S gap ((hl2.map Prod.snd)) z1 z2 h_100 h_101 h_102 (by first | assumption | omega) (by first | assumption | omega) (by first | assumption | omega) n_mm_ra n_mm_sa n_ra_sa b_mm b_ra b_sa (by first | assumption | omega) (by first | assumption | omega) (by first | assumption | omega)) (cwV 2 hts (lw_V q2419 q2420 q2421 q89 q2422) rfl rfl rfl (by decide +kernel) ⟨Nat.le_of_ble_eq_true rfl, Nat.le_of_ble_eq_true rfl⟩) (kx_pv hK hS_92 hB (kx_rc hK h_100 (C := RX3) (T := TX3) (N := 13) rfl)) rfl rfl hl.1 rfl (lv_room (Nat.le_of_ble_eq_true rfl)) dL_law_467 ⟨by first | exact Nat.le_of_ble_eq_true rfl | omega | (dsimp only [lwR]; omega) | (show _ ≤ _; omega), by first | exact Nat.le_of_ble_eq_true rfl | omega | (dsimp only [lwR]; omega) | (show _ ≤ _; omega)⟩) hS_92 (fun q _ h => (ge_mm q) h) (fun q h => (ge_mm q) h) (fun z_110 H_108 locs_105 hz_107 hF_109 hS_106 => ?_)
    have hzf_111 := hF_109.1
    obtain ⟨hv_112, ho_113⟩ := hz_107
    subst z_110
    refine lv_istore (lv' := [(7, .int (kI (0))), (6, .int (kI (1))), (0, .ref b), (1, .ref x1), (2, .ref mm), (3, .ref out), (4, .ref outD), (5, .int (kI ((3 * j : Nat) : Int)))]) hx hb dL_law_470 hl (by decide) rfl (fun ls hl => ?_)
    refine lv_aload_n hx hb dL_law_472 rfl (lv_at hl 4 rfl) ?_
    refine kx_ci0 (va_runV (As := []) (rest := []) ⟨hx, hb, hml, hown, hts⟩ (m_X3_thrown l D H_108 mm ra sa ka ta nh ik t.length 1 sp9 iw le9 fi9 se9 ho_113 ) (cwV 0 hts (lw_V q2278 q2279 q2280 q89 q2281) rfl rfl rfl (by decide +kernel) ⟨Nat.le_of_ble_eq_true rfl, Nat.le_of_ble_eq_true rfl⟩) (kx_pv hK hS_106 hB (kx_rc hK ho_113 (C := RX3) (T := TX3) (N := 13) rfl)) rfl rfl hl.1 rfl (lv_room (Nat.le_of_ble_eq_true rfl)) dL_law_473 ⟨by first | exact Nat.le_of_ble_eq_true rfl | omega | (dsimp only [lwR]; omega) | (show _ ≤ _; omega), by first | exact Nat.le_of_ble_eq_true rfl | omega | (dsimp only [lwR]; omega) | (show _ ≤ _; omega)⟩) hS_106 (fun z_117 locs_114 hz_116 hS_115 => ?_)
    subst z_117
    refine lv_iload hx hb dL_law_476 (lv_at hl 1 rfl) ?_
    refine kx_icmp_eq (x := 1) (y := 1) (tgt := 483) hx hb dL_law_478 (by decide) (by omega) (by omega) (by omega) (by omega) (fun c_478_118 => ?_) (fun c_478_118 => ?_)
    · -- taken at 478
      refine lv_iload hx hb dL_law_483 (lv_at hl 1 rfl) ?_
      refine kx_if_ne (x := 1) (tgt := 500) hx hb dL_law_485 (by decide) (by omega) (by omega) (fun c_485_119 => ?_) (fun c_485_119 => ?_)
      · -- taken at 485
        refine lv_goto (tgt := 2493) hx hb dL_law_500 (by decide) ?_
        have h_120 := h_101.fr hF_109 (n_mm_ra.sm)
        have h_121 := h_102.fr hF_109 (n_mm_sa.sm)
        have h_122 := h_103.fr hF_109 (n_mm_ka.sm)
        have h_123 := h_104.fr hF_109 (n_mm_ta.sm)
        have h_124 := hA_out.ex hF_95
        have h_125 := h_124.fr hF_109 (n_mm_out.sm)
        have h_126 := hA_outD.ex hF_95
        have h_127 := h_126.fr hF_109 (n_mm_outD.sm)
        have h_128 := hW.ex hd9 hF_95
        have h_129 := h_128.fr hd9 hF_109 (fun x => (ty_mm x))
        refine W.widen (k := cells + 50000) (n := slots + 228000) (by omega) (by omega) ?_
        have hM9 : kM D H_108 c0 out mm (S, gap) ((sl.map Prod.snd).head?) (hl2.map Prod.snd) t := ⟨ra, sa, ka, ta, _, _, _, _, _, _, _, _, _, _, _, _, ho_113, h_120, h_121, h_122, h_123, hMr, hMh, hMk, hMt, ht60, hMd, hMb, hMi⟩
        exact kk (S, gap) ((sl.map Prod.snd).head?) (hl2.map Prod.snd) t _ _ _ ⟨hS_115, lv_sub hl [2, 3, 4, 5, 6, 7] rfl, h_129, hM9, ⟨_, h_125⟩, ⟨_, h_127⟩, by omega, by omega⟩
      · -- not taken at 485
        exfalso; omega
    · -- not taken at 478
      exfalso; omega

set_option maxHeartbeats 8000000 in
set_option maxRecDepth 100000 in
theorem lc_label {p : Program} {e : Env} {s : State} {m : MethodId} {below : List Frame} {meth : Method} {c : Code} {l : Launch} {D : kG} {b L c0 c1 x1 mm out outD : Nat} {xs : Nat → Int32} {Q : State → Prop} (C0 : lwC D p l s m meth c b L c0 c1 out outD xs) {j : Nat} (hj : 3 * j + 3 ≤ L) {S : Ls} {gap : Int} {sn : Option Sg} {hs : List Sg} {t : List Int} {H : Heap} {locs : List Loc} {ls : Array Slot} (I0 : lwI D s b c0 c1 x1 mm out outD j j (S, gap) sn hs t H locs ls) {cells slots : Nat} (hcl : cells + 50000 ≤ 1200144) (hsl9 : slots + 228000 ≤ 5496058) (kk : ∀ (σ : Sg) (sn : Option Sg) (hs : List Sg) (t : List Int) (H : Heap) (locs : List Loc) (ls : Array Slot), lwI D s b c0 c1 x1 mm out outD j (j + 1) σ sn hs t H locs ls → W p l e lwR s m #[Value.ref b] below meth c H locs (cells + 50000) (slots + 228000) Q (F0 m 2493 ls [])) : W p l e lwR s m #[Value.ref b] below meth c H locs cells slots Q (F0 m 503 ls []) := by
  obtain ⟨hx, hb, hml, hown, hts, hlk, hK, hl9, hX, hbl, hbs, hL72, hc0, hco, hod, hdc⟩ := C0
  obtain ⟨hS, hl, hW, hM, ⟨go, hA_out⟩, ⟨gd, hA_outD⟩, hc1, htl⟩ := I0
  have hB : ∀ q, (kNW s.heap) q → kBase D ≤ q := fun q h => Nat.le_trans hK.size h
  have hbA : ¬ (kNW s.heap) b := fun h => by have h9 : s.heap.size ≤ b := h; omega
  have hd9 := hK.dis
  have hxE : ¬ kBase D ≤ D.2.2.2 2 := hK.tE.out
  obtain ⟨z1, hz1⟩ : ∃ z, z = (xs (3 * j + 1)).toInt := ⟨_, rfl⟩
  obtain ⟨z2, hz2⟩ : ∃ z, z = (xs (3 * j + 2)).toInt := ⟨_, rfl⟩
  have hr1 : -2147483648 ≤ z1 ∧ z1 ≤ 2147483647 := by rw [hz1]; exact i32r _
  have hr2 : -2147483648 ≤ z2 ∧ z2 ≤ 2147483647 := by rw [hz2]; exact i32r _
  obtain ⟨⟨st, la, ea, F⟩, sl, hl2, hi, es, bu, vb, hO_x1, hDq, hTx, hX5, hev, hAl, hDj, hPw, hsl, hsn, hhs⟩ := id hW
  subst hsn
  subst hhs
  obtain ⟨ra, sa, ka, ta, nh, ik, th, sp9, iw, le9, fi9, se9, g, gs, gk, gt, hO_mm, hA_ra, hA_sa, hA_ka, hA_ta, hMr, hMh, hMk, hMt, ht60, hMd, hMb, hMi⟩ := id hM
  have hMr : MRow g S gap := hMr
  have h0 := hAl _ List.mem_cons_self
  have hP_kState_st : kState D H st la ea gap S F := h0.1
  have hok : LsOK S gap := h0.2.1
  have hG : StG S := h0.2.2.1
  have hL8 : S.length ≤ 8 := hok.1
  have hgp := hok.2.1
  have hO_x1 : kO D H x1 0 [.ref st, va_rf ((sl.map (fun a => a.1.1)).head?), .ref hi, .ref bu] := hO_x1
  have hOw : ∀ q, kOwn D st la ea F S.length q → q ∉ [x1, hi, es, bu, vb] ∧ (q < c0 ∨ c1 ≤ q) := h0.2.2.2
  have hev : Hd (es ≠ vb) := hev
  have io_x1 : ∀ x, c0 ≤ x → x < c1 → x ≠ x1 := fun x => out_of (hX5 x1 (by simp)).2
  have io_hi : ∀ x, c0 ≤ x → x < c1 → x ≠ hi := fun x => out_of (hX5 hi (by simp)).2
  have io_es : ∀ x, c0 ≤ x → x < c1 → x ≠ es := fun x => out_of (hX5 es (by simp)).2
  have io_bu : ∀ x, c0 ≤ x → x < c1 → x ≠ bu := fun x => out_of (hX5 bu (by simp)).2
  have io_vb : ∀ x, c0 ≤ x → x < c1 → x ≠ vb := fun x => out_of (hX5 vb (by simp)).2
  have b_x1 := (hX5 x1 (by simp)).1
  have b_hi := (hX5 hi (by simp)).1
  have b_es := (hX5 es (by simp)).1
  have b_bu := (hX5 bu (by simp)).1
  have b_vb := (hX5 vb (by simp)).1
  obtain ⟨⟨⟨n1, n2, n3, n4⟩, n5, n6, n7⟩, n8, n9, n10⟩ := hMd
  have n_mm_ra : Hd (mm ≠ ra) := n1
  have n_mm_sa : Hd (mm ≠ sa) := n2
  have n_mm_ka : Hd (mm ≠ ka) := n3
  have n_mm_ta : Hd (mm ≠ ta) := n4
  have n_ra_sa : Hd (ra ≠ sa) := n5
  have n_ra_ka : Hd (ra ≠ ka) := n6
  have n_ra_ta : Hd (ra ≠ ta) := n7
  have n_sa_ka : Hd (sa ≠ ka) := n8
  have n_sa_ta : Hd (sa ≠ ta) := n9
  have n_ka_ta : Hd (ka ≠ ta) := n10
  have hMd : Hd (((mm ≠ ra ∧ mm ≠ sa ∧ mm ≠ ka ∧ mm ≠ ta) ∧ ra ≠ sa ∧ ra ≠ ka ∧ ra ≠ ta) ∧ sa ≠ ka ∧ sa ≠ ta ∧ ka ≠ ta) := ⟨⟨⟨n1, n2, n3, n4⟩, n5, n6, n7⟩, n8, n9, n10⟩
  clear n1 n2 n3 n4 n5 n6 n7 n8 n9 n10
  obtain ⟨b_mm, b_ra, b_sa, b_ka, b_ta⟩ := id hMb
  obtain ⟨i_mm, i_ra, i_sa, i_ka, i_ta⟩ := id hMi
  have b_out : kBase D ≤ out := by omega
  have hcc : c0 ≤ c1 := by omega
  have w_mm : mm < c1 := by omega
  have n_mm_out : Hd (mm ≠ out) := Nat.ne_of_lt i_mm.2
  have n_mm_outD : Hd (mm ≠ outD) := Nat.ne_of_lt (Nat.lt_trans i_mm.2 hod)
  have w_ra : ra < c1 := by omega
  have n_ra_out : Hd (ra ≠ out) := Nat.ne_of_lt i_ra.2
  have n_ra_outD : Hd (ra ≠ outD) := Nat.ne_of_lt (Nat.lt_trans i_ra.2 hod)
  have w_sa : sa < c1 := by omega
  have n_sa_out : Hd (sa ≠ out) := Nat.ne_of_lt i_sa.2
  have n_sa_outD : Hd (sa ≠ outD) := Nat.ne_of_lt (Nat.lt_trans i_sa.2 hod)
  have w_ka : ka < c1 := by omega
  have n_ka_out : Hd (ka ≠ out) := Nat.ne_of_lt i_ka.2
  have n_ka_outD : Hd (ka ≠ outD) := Nat.ne_of_lt (Nat.lt_trans i_ka.2 hod)
  have w_ta : ta < c1 := by omega
  have n_ta_out : Hd (ta ≠ out) := Nat.ne_of_lt i_ta.2
  have n_ta_outD : Hd (ta ≠ outD) := Nat.ne_of_lt (Nat.lt_trans i_ta.2 hod)
  have ge_mm : ∀ q, q = mm → kNW s.heap q := fun q h => by rw [h]; show s.heap.size ≤ mm; omega
  have ge_ra : ∀ q, q = ra → kNW s.heap q := fun q h => by rw [h]; show s.heap.size ≤ ra; omega
  have ge_sa : ∀ q, q = sa → kNW s.heap q := fun q h => by rw [h]; show s.heap.size ≤ sa; omega
  have ge_ka : ∀ q, q = ka → kNW s.heap q := fun q h => by rw [h]; show s.heap.size ≤ ka; omega
  have ge_ta : ∀ q, q = ta → kNW s.heap q := fun q h => by rw [h]; show s.heap.size ≤ ta; omega
  have ge_out : ∀ q, q = out → kNW s.heap q := fun q h => by rw [h]; show s.heap.size ≤ out; omega
  have n_out_outD : Hd (out ≠ outD) := Nat.ne_of_lt hod
  have w_out : out < c1 := by omega
  have w_outD : outD < c1 := hdc
  have i_outD : c0 ≤ outD := by omega
  have htyo : kTy D H out := Or.inr ⟨2, _, by decide, hA_out⟩
  have htyd : kTy D H outD := Or.inr ⟨3, _, by decide, hA_outD⟩
  have to_out : ∀ x, x = out → H.size ≤ x ∨ (kTy D H x ∧ c0 ≤ x ∧ x < c1) := fun x h => by rw [h]; exact Or.inr ⟨htyo, hco, w_out⟩
  have to_outD : ∀ x, x = outD → H.size ≤ x ∨ (kTy D H x ∧ c0 ≤ x ∧ x < c1) := fun x h => by rw [h]; exact Or.inr ⟨htyd, i_outD, w_outD⟩
  obtain ⟨⟨hO_st, mc9, hO_la⟩, hLs9, hLn9, hF9, hDs9, hb1, hb2, hb3⟩ := id hP_kState_st
  have hnx : ∀ q, kOwn D st la ea F S.length q → q ≠ hi ∧ q ≠ es ∧ q ≠ x1 := fun q hq => by
    have h9 := (hOw q hq).1
    simp only [List.mem_cons, List.not_mem_nil, or_false, not_or] at h9
    exact ⟨h9.2.1, h9.2.2.1, h9.1⟩
  have hnO9 : ∀ q, kOwn D st la ea F S.length q → q ≠ out := fun q hq => (out_of (hOw q hq).2 hco w_out).symm
  have nex : Hd (x1 ≠ hi ∧ x1 ≠ es) := by
    obtain ⟨_, _, _, y1, y2, _⟩ := hDq
    exact ⟨(kO_ne hd9 y1 hO_x1 (by decide) (by decide) (by decide)).symm, kOA_ne hd9 hO_x1 y2 (by decide) (by decide)⟩
  have neo : Hd (hi ≠ out ∧ es ≠ out ∧ x1 ≠ out) := ⟨(io_hi out hco w_out).symm, (io_es out hco w_out).symm, (io_x1 out hco w_out).symm⟩
  by_cases hA : 0 ≤ z1 ∧ z1 < (S.length : Int)
  · -- hA
    obtain ⟨ln9, hv1⟩ : ∃ k : Nat, z1 = (k : Int) := ⟨z1.toNat, by omega⟩
    have hln : ln9 < S.length := by omega
    have hLn := hok.ln hln
    by_cases hA2 : 0 ≤ z2 ∧ z2 ≤ (ln_n (st_ln S ln9) : Int)
    · -- hA2
      obtain ⟨pl9, hv2⟩ : ∃ k : Nat, z2 = (k : Int) := ⟨z2.toNat, by omega⟩
      have hpl : pl9 ≤ ln_n (st_ln S ln9) := by omega
      by_cases hA3 : st_whyL S gap ln9 pl9 = 0
      · -- hA3
        have hr9 := ln_bends_rng hLn (pl9 : Int)
        have hn9 := hLn.n
        have hrv : -2147483648 ≤ ln_bends (st_ln S ln9) (pl9 : Int) ∧ ln_bends (st_ln S ln9) (pl9 : Int) ≤ 2147483647 := ⟨by omega, by omega⟩
        refine lv_aload_n hx hb dL_law_503 rfl (lv_at hl 1 rfl) ?_
        refine lv_aload_n hx hb dL_law_504 rfl (lv_at hl 0 rfl) ?_
        refine lv_iload hx hb dL_law_505 (lv_at hl 5 rfl) ?_
        refine kx_iconst hx hb dL_law_507 ?_
        refine kx_iadd hx hb dL_law_508 ?_
        refine kx_sld (i := (((3 * j : Nat) : Int) + 1)) hx hb hX hbl hbA hS (3 * j + 1) (by omega) (by omega) (by omega) dL_law_509 ?_
        refine kx_eqi (((ln9 : Nat) : Int)) (hz1.symm.trans hv1) ?_
        refine lv_aload_n hx hb dL_law_510 rfl (lv_at hl 0 rfl) ?_
        refine lv_iload hx hb dL_law_511 (lv_at hl 5 rfl) ?_
        refine kx_iconst hx hb dL_law_513 ?_
        refine kx_iadd hx hb dL_law_514 ?_
        refine kx_sld (i := (((3 * j : Nat) : Int) + 2)) hx hb hX hbl hbA hS (3 * j + 2) (by omega) (by omega) (by omega) dL_law_515 ?_
        refine kx_eqi (((pl9 : Nat) : Int)) (hz2.symm.trans hv2) ?_
        refine lv_aload_n hx hb dL_law_516 rfl (lv_at hl 3 rfl) ?_
        refine kx_ci (vx_runSW (As := [.ref x1, .int (kI ((ln9 : Nat) : Int)), .int (kI ((pl9 : Nat) : Int)), .ref out]) (rest := []) ⟨hx, hb, hml, hown, hts⟩ (wr_label l hl9 D H x1 ((sl.map (fun a => a.1.1)).head?) hi bu es ((hl2.map (fun a => a.1.1))) st la ea F S gap ln9 pl9 out go hO_x1 hP_kState_st hDq hA_out (by first | assumption | omega) (by first | assumption | omega) (by first | assumption | omega) (by first | assumption | omega) nex (by first | assumption | omega) (by first | assumption | omega) (by first | assumption | omega) (by first | assumption | omega) (by first | assumption | omega) neo (by first | assumption | omega)) (vx_cwSW 4 hts (lw_SW q1889 q1890 q78 q1891) rfl rfl rfl (by decide +kernel) ⟨Nat.le_of_ble_eq_true rfl, Nat.le_of_ble_eq_true rfl⟩) (kx_ps hK hS hB) rfl rfl hl.1 rfl (lv_room (Nat.le_of_ble_eq_true rfl)) dL_law_517 ⟨by first | exact Nat.le_of_ble_eq_true rfl | omega | (dsimp only [lwR]; omega) | (show _ ≤ _; omega), by first | exact Nat.le_of_ble_eq_true rfl | omega | (dsimp only [lwR]; omega) | (show _ ≤ _; omega)⟩) hS (fun q _ h => (fun h => Or.elim h (ge_out q) (fun h => Or.elim h (fun h => by have h8 := hP_kState_st.ownge h; show s.heap.size ≤ q; omega) (fun h => Or.elim h (fun h => by rw [h]; show s.heap.size ≤ hi; omega) (fun h => Or.elim h (fun h => by rw [h]; show s.heap.size ≤ es; omega) (fun h => Nat.le_trans hS.1 h))))) h) (fun q h => (fun h => Or.elim h (ge_out q) (fun h => Or.elim h (fun h => by have h8 := hP_kState_st.ownge h; show s.heap.size ≤ q; omega) (fun h => Or.elim h (fun h => by rw [h]; show s.heap.size ≤ hi; omega) (fun h => Or.elim h (fun h => by rw [h]; show s.heap.size ≤ es; omega) (fun h => Nat.le_trans hS.1 h))))) h) (fun z_6 H_4 locs_1 hz_3 hF_5 hS_2 => ?_)
        have hzf_7 := hF_5.1
        obtain ⟨crw, la2w, ea2w, F2w, ea3w, F3w, hv_14, ho_15, ho_16, ho_17, ho_18, ho_19, hw1, hw2, hw3⟩ := hz_3
        subst z_6
        have hW9 : kW D H_4 c0 c1 x1 (S.set ln9 (w_lb (st_ln S ln9) (pl9 : Int)), gap) ((sl.map Prod.snd).head?) (pushH (hl2.map Prod.snd) (S, gap)) t := kW.change (out := out) hd9 hxE hO_x1 hDq hTx hX5 hev hAl hDj hPw hsl hF_5 htyo ⟨hco, w_out⟩ hc1 ho_15 ho_16 ho_17 ho_18 hw1 hw2 hw3 (hok.lbl hln hA3) (hG.set hln rfl rfl)
        refine lv_istore (lv' := [(6, .int (kI (0))), (0, .ref b), (1, .ref x1), (2, .ref mm), (3, .ref out), (4, .ref outD), (5, .int (kI ((3 * j : Nat) : Int)))]) hx hb dL_law_520 hl (by decide) rfl (fun ls hl => ?_)
        refine lv_aload_n hx hb dL_law_522 rfl (lv_at hl 3 rfl) ?_
        refine lv_aload_n hx hb dL_law_523 rfl (lv_at hl 1 rfl) ?_
        refine lv_iload hx hb dL_law_524 (lv_at hl 6 rfl) ?_
        refine kx_iconst hx hb dL_law_526 ?_
        refine kx_iadd hx hb dL_law_527 ?_
        refine kx_sld (i := (((3 * j : Nat) : Int) + 1)) hx hb hX hbl hbA hS_2 (3 * j + 1) (by omega) (by omega) (by omega) dL_law_528 ?_
        refine kx_eqi (((ln9 : Nat) : Int)) (hz1.symm.trans hv1) ?_
        refine lv_aload_n hx hb dL_law_529 rfl (lv_at hl 1 rfl) ?_
        refine lv_iload hx hb dL_law_530 (lv_at hl 6 rfl) ?_
        refine kx_iconst hx hb dL_law_532 ?_
        refine kx_iadd hx hb dL_law_533 ?_
        refine kx_sld (i := (((3 * j : Nat) : Int) + 2)) hx hb hX hbl hbA hS_2 (3 * j + 2) (by omega) (by omega) (by omega) dL_law_534 ?_
        refine kx_eqi (((pl9 : Nat) : Int)) (hz2.symm.trans hv2) ?_
        have h_20 := hO_mm.fr hF_5 (fun h => Or.elim h (n_mm_out) (fun h => Or.elim h (fun h => out_of (hOw _ h).2 i_mm.1 w_mm rfl) (fun h => Or.elim h (io_hi _ i_mm.1 w_mm) (fun h => Or.elim h (io_es _ i_mm.1 w_mm) (fun h => Nat.not_le_of_gt hO_mm.lt h)))))
        have h_21 := hA_ra.fr hF_5 (fun h => Or.elim h (n_ra_out) (fun h => Or.elim h (fun h => out_of (hOw _ h).2 i_ra.1 w_ra rfl) (fun h => Or.elim h (io_hi _ i_ra.1 w_ra) (fun h => Or.elim h (io_es _ i_ra.1 w_ra) (fun h => Nat.not_le_of_gt hA_ra.lt h)))))
        have h_22 := hA_sa.fr hF_5 (fun h => Or.elim h (n_sa_out) (fun h => Or.elim h (fun h => out_of (hOw _ h).2 i_sa.1 w_sa rfl) (fun h => Or.elim h (io_hi _ i_sa.1 w_sa) (fun h => Or.elim h (io_es _ i_sa.1 w_sa) (fun h => Nat.not_le_of_gt hA_sa.lt h)))))
        have h_23 := hA_ka.fr hF_5 (fun h => Or.elim h (n_ka_out) (fun h => Or.elim h (fun h => out_of (hOw _ h).2 i_ka.1 w_ka rfl) (fun h => Or.elim h (io_hi _ i_ka.1 w_ka) (fun h => Or.elim h (io_es _ i_ka.1 w_ka) (fun h => Nat.not_le_of_gt hA_ka.lt h)))))
        have h_24 := hA_ta.fr hF_5 (fun h => Or.elim h (n_ta_out) (fun h => Or.elim h (fun h => out_of (hOw _ h).2 i_ta.1 w_ta rfl) (fun h => Or.elim h (io_hi _ i_ta.1 w_ta) (fun h => Or.elim h (io_es _ i_ta.1 w_ta) (fun h => Nat.not_le_of_gt hA_ta.lt h)))))
        have ty_mm : ∀ x, x = mm → H_4.size ≤ x ∨ (kTy D H_4 x ∧ c0 ≤ x ∧ x < c1) := fun x h => by rw [h]; exact Or.inr ⟨Or.inl ⟨2, _, by decide, by decide, by decide, h_20⟩, i_mm.1, w_mm⟩
        have ty_ra : ∀ x, x = ra → H_4.size ≤ x ∨ (kTy D H_4 x ∧ c0 ≤ x ∧ x < c1) := fun x h => by rw [h]; exact Or.inr ⟨Or.inr ⟨0, _, by decide, h_21⟩, i_ra.1, w_ra⟩
        have ty_sa : ∀ x, x = sa → H_4.size ≤ x ∨ (kTy D H_4 x ∧ c0 ≤ x ∧ x < c1) := fun x h => by rw [h]; exact Or.inr ⟨Or.inr ⟨0, _, by decide, h_22⟩, i_sa.1, w_sa⟩
        refine kx_ci (va_runV (As := [.int (kI ((ln9 : Nat) : Int)), .int (kI ((pl9 : Nat) : Int))]) (rest := []) ⟨hx, hb, hml, hown, hts⟩ (m_X3_label l D H_4 mm ra sa ka ta nh ik t.length th sp9 iw le9 fi9 se9 g gs S gap ((hl2.map Prod.snd)) ln9 pl9 h_20 h_21 h_22 (by first | assumption | omega) (by first | assumption | omega) (by first | assumption | omega) n_mm_ra n_mm_sa n_ra_sa b_mm b_ra b_sa (by first | assumption | omega) (by first | assumption | omega) (lbl_in hA3) (rl0 hln hpl hA3)) (cwV 2 hts (lw_V q2423 q2424 q2425 q89 q2426) rfl rfl rfl (by decide +kernel) ⟨Nat.le_of_ble_eq_true rfl, Nat.le_of_ble_eq_true rfl⟩) (kx_pv hK hS_2 hB (kx_rc hK h_20 (C := RX3) (T := TX3) (N := 13) rfl)) rfl rfl hl.1 rfl (lv_room (Nat.le_of_ble_eq_true rfl)) dL_law_535 ⟨by first | exact Nat.le_of_ble_eq_true rfl | omega | (dsimp only [lwR]; omega) | (show _ ≤ _; omega), by first | exact Nat.le_of_ble_eq_true rfl | omega | (dsimp only [lwR]; omega) | (show _ ≤ _; omega)⟩) hS_2 (fun q _ h => (fun h => Or.elim h (ge_mm q) (fun h => Or.elim h (ge_ra q) (ge_sa q))) h) (fun q h => (fun h => Or.elim h (ge_mm q) (fun h => Or.elim h (ge_ra q) (ge_sa q))) h) (fun z_30 H_28 locs_25 hz_27 hF_29 hS_26 => ?_)
        have hzf_31 := hF_29.1
        obtain ⟨g2_32, gs2_33, sn2_34, hv_35, ho_36, ho_37, ho_38, hM29, hH29⟩ := hz_27
        subst z_30
        refine lv_istore (lv' := [(7, .int (kI (ln_bends (st_ln S ln9) pl9))), (6, .int (kI (0))), (0, .ref b), (1, .ref x1), (2, .ref mm), (3, .ref out), (4, .ref outD), (5, .int (kI ((3 * j : Nat) : Int)))]) hx hb dL_law_538 hl (by decide) rfl (fun ls hl => ?_)
        refine lv_aload_n hx hb dL_law_540 rfl (lv_at hl 4 rfl) ?_
        refine kx_ci0 (va_runV (As := []) (rest := []) ⟨hx, hb, hml, hown, hts⟩ (m_X3_thrown l D H_28 mm ra sa ka ta sn2_34 ik t.length 0 sp9 iw le9 fi9 se9 ho_36 ) (cwV 0 hts (lw_V q2278 q2279 q2280 q89 q2281) rfl rfl rfl (by decide +kernel) ⟨Nat.le_of_ble_eq_true rfl, Nat.le_of_ble_eq_true rfl⟩) (kx_pv hK hS_26 hB (kx_rc hK ho_36 (C := RX3) (T := TX3) (N := 13) rfl)) rfl rfl hl.1 rfl (lv_room (Nat.le_of_ble_eq_true rfl)) dL_law_541 ⟨by first | exact Nat.le_of_ble_eq_true rfl | omega | (dsimp only [lwR]; omega) | (show _ ≤ _; omega), by first | exact Nat.le_of_ble_eq_true rfl | omega | (dsimp only [lwR]; omega) | (show _ ≤ _; omega)⟩) hS_26 (fun z_42 locs_39 hz_41 hS_40 => ?_)
        subst z_42
        refine lv_iload hx hb dL_law_544 (lv_at hl 1 rfl) ?_
        refine kx_icmp_eq (x := 0) (y := 0) (tgt := 551) hx hb dL_law_546 (by decide) (by omega) (by omega) (by omega) (by omega) (fun c_546_43 => ?_) (fun c_546_43 => ?_)
        · -- taken at 546
          refine lv_iload hx hb dL_law_551 (lv_at hl 1 rfl) ?_
          refine kx_if_ne (x := 0) (tgt := 568) hx hb dL_law_553 (by decide) (by omega) (by omega) (fun c_553_44 => ?_) (fun c_553_44 => ?_)
          · -- taken at 553
            exfalso; omega
          · -- not taken at 553
            refine lv_aload_n hx hb dL_law_556 rfl (lv_at hl 5 rfl) ?_
            refine kx_iconst hx hb dL_law_557 ?_
            have h_45 := ho_19.fr hF_29 (fun h => Or.elim h (n_mm_out.sm) (fun h => Or.elim h (n_ra_out.sm) (n_sa_out.sm)))
            refine kx_lald (i := 0) hx hb hK h_45 0 rfl (by decide) (by decide) dL_law_558 ?_
            refine lv_iload hx hb dL_law_559 (lv_at hl 0 rfl) ?_
            refine kx_i2l hx hb (z := ln_bends (st_ln S ln9) pl9) (by omega) (by omega) dL_law_561 ?_
            refine kx_lcmpE hx hb (x := ((kup go 0 (kL (ln_bends (st_ln S ln9) (pl9 : Int))))) 0) (y := kL (ln_bends (st_ln S ln9) pl9)) (kup_self _ _ _) dL_law_562 ?_
            refine kx_if_eq (x := 0) (tgt := 568) hx hb dL_law_563 (by decide) (by omega) (by omega) (fun c_563_46 => ?_) (fun c_563_46 => ?_)
            · -- taken at 563
              refine lv_goto (tgt := 2493) hx hb dL_law_568 (by decide) ?_
              have h_47 := h_23.fr hF_29 (fun h => Or.elim h (n_mm_ka.sm) (fun h => Or.elim h (n_ra_ka.sm) (n_sa_ka.sm)))
              have h_48 := h_24.fr hF_29 (fun h => Or.elim h (n_mm_ta.sm) (fun h => Or.elim h (n_ra_ta.sm) (n_sa_ta.sm)))
              have h_49 := hA_outD.fr hF_5 (fun h => Or.elim h (n_out_outD.sm) (fun h => Or.elim h (fun h => out_of (hOw _ h).2 i_outD w_outD rfl) (fun h => Or.elim h (io_hi _ i_outD w_outD) (fun h => Or.elim h (io_es _ i_outD w_outD) (fun h => Nat.not_le_of_gt hA_outD.lt h)))))
              have h_50 := h_49.fr hF_29 (fun h => Or.elim h (n_mm_outD.sm) (fun h => Or.elim h (n_ra_outD.sm) (n_sa_outD.sm)))
              have h_51 := hW9.fr hd9 hF_29 (fun x => (fun h => Or.elim h (ty_mm x) (fun h => Or.elim h (ty_ra x) (ty_sa x))))
              refine W.widen (k := cells + 50000) (n := slots + 228000) (by omega) (by omega) ?_
              have hM9 : kM D H_28 c0 out mm (S.set ln9 (w_lb (st_ln S ln9) (pl9 : Int)), gap) ((sl.map Prod.snd).head?) (pushH (hl2.map Prod.snd) (S, gap)) t := ⟨ra, sa, ka, ta, _, _, _, _, _, _, _, _, _, _, _, _, ho_36, ho_37, ho_38, h_47, h_48, hM29, hH29, hMk, hMt, ht60, hMd, hMb, hMi⟩
              exact kk (S.set ln9 (w_lb (st_ln S ln9) (pl9 : Int)), gap) ((sl.map Prod.snd).head?) (pushH (hl2.map Prod.snd) (S, gap)) t _ _ _ ⟨hS_40, lv_sub hl [2, 3, 4, 5, 6, 7] rfl, h_51, hM9, ⟨_, h_45⟩, ⟨_, h_50⟩, by omega, by omega⟩
            · -- not taken at 563
              exfalso; omega
        · -- not taken at 546
          exfalso; omega
      · -- hA3
        refine lv_aload_n hx hb dL_law_503 rfl (lv_at hl 1 rfl) ?_
        refine lv_aload_n hx hb dL_law_504 rfl (lv_at hl 0 rfl) ?_
        refine lv_iload hx hb dL_law_505 (lv_at hl 5 rfl) ?_
        refine kx_iconst hx hb dL_law_507 ?_
        refine kx_iadd hx hb dL_law_508 ?_
        refine kx_sld (i := (((3 * j : Nat) : Int) + 1)) hx hb hX hbl hbA hS (3 * j + 1) (by omega) (by omega) (by omega) dL_law_509 ?_
        refine kx_eqi (((ln9 : Nat) : Int)) (hz1.symm.trans hv1) ?_
        refine lv_aload_n hx hb dL_law_510 rfl (lv_at hl 0 rfl) ?_
        refine lv_iload hx hb dL_law_511 (lv_at hl 5 rfl) ?_
        refine kx_iconst hx hb dL_law_513 ?_
        refine kx_iadd hx hb dL_law_514 ?_
        refine kx_sld (i := (((3 * j : Nat) : Int) + 2)) hx hb hX hbl hbA hS (3 * j + 2) (by omega) (by omega) (by omega) dL_law_515 ?_
        refine kx_eqi (((pl9 : Nat) : Int)) (hz2.symm.trans hv2) ?_
        refine lv_aload_n hx hb dL_law_516 rfl (lv_at hl 3 rfl) ?_
        refine kx_ci (vx_runSW (As := [.ref x1, .int (kI ((ln9 : Nat) : Int)), .int (kI ((pl9 : Nat) : Int)), .ref out]) (rest := []) ⟨hx, hb, hml, hown, hts⟩ (wx_label_2 l hl9 D H x1 ((sl.map (fun a => a.1.1)).head?) hi bu st la mc9 ea F S gap ln9 pl9 out hO_x1 hO_st hO_la hLs9 hLn9 (by first | assumption | omega) (by first | assumption | omega) (by first | assumption | omega) (by first | assumption | omega)) (vx_cwSW 4 hts (lw_SW q1889 q1890 q78 q1891) rfl rfl rfl (by decide +kernel) ⟨Nat.le_of_ble_eq_true rfl, Nat.le_of_ble_eq_true rfl⟩) (kx_ps hK hS hB) rfl rfl hl.1 rfl (lv_room (Nat.le_of_ble_eq_true rfl)) dL_law_517 ⟨by first | exact Nat.le_of_ble_eq_true rfl | omega | (dsimp only [lwR]; omega) | (show _ ≤ _; omega), by first | exact Nat.le_of_ble_eq_true rfl | omega | (dsimp only [lwR]; omega) | (show _ ≤ _; omega)⟩) hS (fun q _ h => by have h9 := hS.1; (try dsimp only at h); (try dsimp only); (try simp only [kNW] at h); (try simp only [kNW]); omega) (fun q h => by have h9 := hS.1; (try dsimp only at h); (try dsimp only); (try simp only [kNW] at h); (try simp only [kNW]); omega) (fun z_57 H_55 locs_52 hz_54 hF_56 hS_53 => ?_)
        have hzf_58 := hF_56.1
        have hF_56 := hF_56.nw
        obtain ⟨hv_59, hnw_60⟩ := hz_54
        subst z_57
        refine lv_istore (lv' := [(6, .int (kI (2))), (0, .ref b), (1, .ref x1), (2, .ref mm), (3, .ref out), (4, .ref outD), (5, .int (kI ((3 * j : Nat) : Int)))]) hx hb dL_law_520 hl (by decide) rfl (fun ls hl => ?_)
        refine lv_aload_n hx hb dL_law_522 rfl (lv_at hl 3 rfl) ?_
        refine lv_aload_n hx hb dL_law_523 rfl (lv_at hl 1 rfl) ?_
        refine lv_iload hx hb dL_law_524 (lv_at hl 6 rfl) ?_
        refine kx_iconst hx hb dL_law_526 ?_
        refine kx_iadd hx hb dL_law_527 ?_
        refine kx_sld (i := (((3 * j : Nat) : Int) + 1)) hx hb hX hbl hbA hS_53 (3 * j + 1) (by omega) (by omega) (by omega) dL_law_528 ?_
        refine kx_eqi (((ln9 : Nat) : Int)) (hz1.symm.trans hv1) ?_
        refine lv_aload_n hx hb dL_law_529 rfl (lv_at hl 1 rfl) ?_
        refine lv_iload hx hb dL_law_530 (lv_at hl 6 rfl) ?_
        refine kx_iconst hx hb dL_law_532 ?_
        refine kx_iadd hx hb dL_law_533 ?_
        refine kx_sld (i := (((3 * j : Nat) : Int) + 2)) hx hb hX hbl hbA hS_53 (3 * j + 2) (by omega) (by omega) (by omega) dL_law_534 ?_
        refine kx_eqi (((pl9 : Nat) : Int)) (hz2.symm.trans hv2) ?_
        have h_61 := hO_mm.ex hF_56
        have h_62 := hA_ra.ex hF_56
        have h_63 := hA_sa.ex hF_56
        have h_64 := hA_ka.ex hF_56
        have h_65 := hA_ta.ex hF_56
        have ty_mm : ∀ x, x = mm → H_55.size ≤ x ∨ (kTy D H_55 x ∧ c0 ≤ x ∧ x < c1) := fun x h => by rw [h]; exact Or.inr ⟨Or.inl ⟨2, _, by decide, by decide, by decide, h_61⟩, i_mm.1, w_mm⟩
        refine kx_ci (va_runV (As := [.int (kI ((ln9 : Nat) : Int)), .int (kI ((pl9 : Nat) : Int))]) (rest := []) ⟨hx, hb, hml, hown, hts⟩ (m_X3_label_no l D H_55 mm ra sa ka ta nh ik t.length th sp9 iw le9 fi9 se9 g gs S gap ((hl2.map Prod.snd)) (((ln9 : Nat) : Int)) (((pl9 : Nat) : Int)) h_61 h_62 h_63 (by first | assumption | omega) (by first | assumption | omega) (by first | assumption | omega) n_mm_ra n_mm_sa n_ra_sa b_mm b_ra b_sa (by first | assumption | omega) (by first | assumption | omega) (by rw [rl2 hln hpl hA3]; decide) (by rw [rl2 hln hpl hA3]; decide)) (cwV 2 hts (lw_V q2423 q2424 q2425 q89 q2426) rfl rfl rfl (by decide +kernel) ⟨Nat.le_of_ble_eq_true rfl, Nat.le_of_ble_eq_true rfl⟩) (kx_pv hK hS_53 hB (kx_rc hK h_61 (C := RX3) (T := TX3) (N := 13) rfl)) rfl rfl hl.1 rfl (lv_room (Nat.le_of_ble_eq_true rfl)) dL_law_535 ⟨by first | exact Nat.le_of_ble_eq_true rfl | omega | (dsimp only [lwR]; omega) | (show _ ≤ _; omega), by first | exact Nat.le_of_ble_eq_true rfl | omega | (dsimp only [lwR]; omega) | (show _ ≤ _; omega)⟩) hS_53 (fun q _ h => (ge_mm q) h) (fun q h => (ge_mm q) h) (fun z_71 H_69 locs_66 hz_68 hF_70 hS_67 => ?_)
        have hzf_72 := hF_70.1
        obtain ⟨hv_73, ho_74⟩ := hz_68
        subst z_71
        refine lv_istore (lv' := [(7, .int (kI (0))), (6, .int (kI (2))), (0, .ref b), (1, .ref x1), (2, .ref mm), (3, .ref out), (4, .ref outD), (5, .int (kI ((3 * j : Nat) : Int)))]) hx hb dL_law_538 hl (by decide) rfl (fun ls hl => ?_)
        refine lv_aload_n hx hb dL_law_540 rfl (lv_at hl 4 rfl) ?_
        refine kx_ci0 (va_runV (As := []) (rest := []) ⟨hx, hb, hml, hown, hts⟩ (m_X3_thrown l D H_69 mm ra sa ka ta nh ik t.length (ref_l S gap ((((ln9 : Nat) : Int))) ((((pl9 : Nat) : Int)))) sp9 iw le9 fi9 se9 ho_74 ) (cwV 0 hts (lw_V q2278 q2279 q2280 q89 q2281) rfl rfl rfl (by decide +kernel) ⟨Nat.le_of_ble_eq_true rfl, Nat.le_of_ble_eq_true rfl⟩) (kx_pv hK hS_67 hB (kx_rc hK ho_74 (C := RX3) (T := TX3) (N := 13) rfl)) rfl rfl hl.1 rfl (lv_room (Nat.le_of_ble_eq_true rfl)) dL_law_541 ⟨by first | exact Nat.le_of_ble_eq_true rfl | omega | (dsimp only [lwR]; omega) | (show _ ≤ _; omega), by first | exact Nat.le_of_ble_eq_true rfl | omega | (dsimp only [lwR]; omega) | (show _ ≤ _; omega)⟩) hS_67 (fun z_78 locs_75 hz_77 hS_76 => ?_)
        subst z_78
        refine kx_eqi (2) (rl2 hln hpl hA3) ?_
        refine lv_iload hx hb dL_law_544 (lv_at hl 1 rfl) ?_
        refine kx_icmp_eq (x := 2) (y := 2) (tgt := 551) hx hb dL_law_546 (by decide) (by omega) (by omega) (by omega) (by omega) (fun c_546_79 => ?_) (fun c_546_79 => ?_)
        · -- taken at 546
          refine lv_iload hx hb dL_law_551 (lv_at hl 1 rfl) ?_
          refine kx_if_ne (x := 2) (tgt := 568) hx hb dL_law_553 (by decide) (by omega) (by omega) (fun c_553_80 => ?_) (fun c_553_80 => ?_)
          · -- taken at 553
            refine lv_goto (tgt := 2493) hx hb dL_law_568 (by decide) ?_
            have h_81 := h_62.fr hF_70 (n_mm_ra.sm)
            have h_82 := h_63.fr hF_70 (n_mm_sa.sm)
            have h_83 := h_64.fr hF_70 (n_mm_ka.sm)
            have h_84 := h_65.fr hF_70 (n_mm_ta.sm)
            have h_85 := hA_out.ex hF_56
            have h_86 := h_85.fr hF_70 (n_mm_out.sm)
            have h_87 := hA_outD.ex hF_56
            have h_88 := h_87.fr hF_70 (n_mm_outD.sm)
            have h_89 := hW.ex hd9 hF_56
            have h_90 := h_89.fr hd9 hF_70 (fun x => (ty_mm x))
            refine W.widen (k := cells + 50000) (n := slots + 228000) (by omega) (by omega) ?_
            have hM9 : kM D H_69 c0 out mm (S, gap) ((sl.map Prod.snd).head?) (hl2.map Prod.snd) t := ⟨ra, sa, ka, ta, _, _, _, _, _, _, _, _, _, _, _, _, ho_74, h_81, h_82, h_83, h_84, hMr, hMh, hMk, hMt, ht60, hMd, hMb, hMi⟩
            exact kk (S, gap) ((sl.map Prod.snd).head?) (hl2.map Prod.snd) t _ _ _ ⟨hS_76, lv_sub hl [2, 3, 4, 5, 6, 7] rfl, h_90, hM9, ⟨_, h_86⟩, ⟨_, h_88⟩, by omega, by omega⟩
          · -- not taken at 553
            exfalso; omega
        · -- not taken at 546
          exfalso; omega
    · -- hA2
      refine lv_aload_n hx hb dL_law_503 rfl (lv_at hl 1 rfl) ?_
      refine lv_aload_n hx hb dL_law_504 rfl (lv_at hl 0 rfl) ?_
      refine lv_iload hx hb dL_law_505 (lv_at hl 5 rfl) ?_
      refine kx_iconst hx hb dL_law_507 ?_
      refine kx_iadd hx hb dL_law_508 ?_
      refine kx_sld (i := (((3 * j : Nat) : Int) + 1)) hx hb hX hbl hbA hS (3 * j + 1) (by omega) (by omega) (by omega) dL_law_509 ?_
      refine kx_eqi (((ln9 : Nat) : Int)) (hz1.symm.trans hv1) ?_
      refine lv_aload_n hx hb dL_law_510 rfl (lv_at hl 0 rfl) ?_
      refine lv_iload hx hb dL_law_511 (lv_at hl 5 rfl) ?_
      refine kx_iconst hx hb dL_law_513 ?_
      refine kx_iadd hx hb dL_law_514 ?_
      refine kx_sld (i := (((3 * j : Nat) : Int) + 2)) hx hb hX hbl hbA hS (3 * j + 2) (by omega) (by omega) (by omega) dL_law_515 ?_
      refine kx_eqi (z2) (hz2.symm) ?_
      refine lv_aload_n hx hb dL_law_516 rfl (lv_at hl 3 rfl) ?_
      refine kx_ci (vx_runSW (As := [.ref x1, .int (kI ((ln9 : Nat) : Int)), .int (kI (z2)), .ref out]) (rest := []) ⟨hx, hb, hml, hown, hts⟩ (wx_label_1n l hl9 D H x1 ((sl.map (fun a => a.1.1)).head?) hi bu st la mc9 ea F S gap ln9 z2 out hO_x1 hO_st hO_la hLs9 hLn9 (by first | assumption | omega) (by first | assumption | omega) (by first | assumption | omega) (by first | assumption | omega)) (vx_cwSW 4 hts (lw_SW q1889 q1890 q78 q1891) rfl rfl rfl (by decide +kernel) ⟨Nat.le_of_ble_eq_true rfl, Nat.le_of_ble_eq_true rfl⟩) (kx_ps hK hS hB) rfl rfl hl.1 rfl (lv_room (Nat.le_of_ble_eq_true rfl)) dL_law_517 ⟨by first | exact Nat.le_of_ble_eq_true rfl | omega | (dsimp only [lwR]; omega) | (show _ ≤ _; omega), by first | exact Nat.le_of_ble_eq_true rfl | omega | (dsimp only [lwR]; omega) | (show _ ≤ _; omega)⟩) hS (fun q _ h => by have h9 := hS.1; (try dsimp only at h); (try dsimp only); (try simp only [kNW] at h); (try simp only [kNW]); omega) (fun q h => by have h9 := hS.1; (try dsimp only at h); (try dsimp only); (try simp only [kNW] at h); (try simp only [kNW]); omega) (fun z_96 H_94 locs_91 hz_93 hF_95 hS_92 => ?_)
      have hzf_97 := hF_95.1
      have hF_95 := hF_95.nw
      obtain ⟨hv_98, hnw_99⟩ := hz_93
      subst z_96
      refine lv_istore (lv' := [(6, .int (kI (1))), (0, .ref b), (1, .ref x1), (2, .ref mm), (3, .ref out), (4, .ref outD), (5, .int (kI ((3 * j : Nat) : Int)))]) hx hb dL_law_520 hl (by decide) rfl (fun ls hl => ?_)
      refine lv_aload_n hx hb dL_law_522 rfl (lv_at hl 3 rfl) ?_
      refine lv_aload_n hx hb dL_law_523 rfl (lv_at hl 1 rfl) ?_
      refine lv_iload hx hb dL_law_524 (lv_at hl 6 rfl) ?_
      refine kx_iconst hx hb dL_law_526 ?_
      refine kx_iadd hx hb dL_law_527 ?_
      refine kx_sld (i := (((3 * j : Nat) : Int) + 1)) hx hb hX hbl hbA hS_92 (3 * j + 1) (by omega) (by omega) (by omega) dL_law_528 ?_
      refine kx_eqi (((ln9 : Nat) : Int)) (hz1.symm.trans hv1) ?_
      refine lv_aload_n hx hb dL_law_529 rfl (lv_at hl 1 rfl) ?_
      refine lv_iload hx hb dL_law_530 (lv_at hl 6 rfl) ?_
      refine kx_iconst hx hb dL_law_532 ?_
      refine kx_iadd hx hb dL_law_533 ?_
      refine kx_sld (i := (((3 * j : Nat) : Int) + 2)) hx hb hX hbl hbA hS_92 (3 * j + 2) (by omega) (by omega) (by omega) dL_law_534 ?_
      refine kx_eqi (z2) (hz2.symm) ?_
      have h_100 := hO_mm.ex hF_95
      have h_101 := hA_ra.ex hF_95
      have h_102 := hA_sa.ex hF_95
      have h_103 := hA_ka.ex hF_95
      have h_104 := hA_ta.ex hF_95
      have ty_mm : ∀ x, x = mm → H_94.size ≤ x ∨ (kTy D H_94 x ∧ c0 ≤ x ∧ x < c1) := fun x h => by rw [h]; exact Or.inr ⟨Or.inl ⟨2, _, by decide, by decide, by decide, h_100⟩, i_mm.1, w_mm⟩
      refine kx_ci (va_runV (As := [.int (kI ((ln9 : Nat) : Int)), .int (kI (z2))]) (rest := []) ⟨hx, hb, hml, hown, hts⟩ (m_X3_label_no l D H_94 mm ra sa ka ta nh ik t.length th sp9 iw le9 fi9 se9 g gs S gap ((hl2.map Prod.snd)) (((ln9 : Nat) : Int)) z2 h_100 h_101 h_102 (by first | assumption | omega) (by first | assumption | omega) (by first | assumption | omega) n_mm_ra n_mm_sa n_ra_sa b_mm b_ra b_sa (by first | assumption | omega) (by first | assumption | omega) (by rw [rl1n hln hA2]; decide) (by rw [rl1n hln hA2]; decide)) (cwV 2 hts (lw_V q2423 q2424 q2425 q89 q2426) rfl rfl rfl (by decide +kernel) ⟨Nat.le_of_ble_eq_true rfl, Nat.le_of_ble_eq_true rfl⟩) (kx_pv hK hS_92 hB (kx_rc hK h_100 (C := RX3) (T := TX3) (N := 13) rfl)) rfl rfl hl.1 rfl (lv_room (Nat.le_of_ble_eq_true rfl)) dL_law_535 ⟨by first | exact Nat.le_of_ble_eq_true rfl | omega | (dsimp only [lwR]; omega) | (show _ ≤ _; omega), by first | exact Nat.le_of_ble_eq_true rfl | omega | (dsimp only [lwR]; omega) | (show _ ≤ _; omega)⟩) hS_92 (fun q _ h => (ge_mm q) h) (fun q h => (ge_mm q) h) (fun z_110 H_108 locs_105 hz_107 hF_109 hS_106 => ?_)
      have hzf_111 := hF_109.1
      obtain ⟨hv_112, ho_113⟩ := hz_107
      subst z_110
      refine lv_istore (lv' := [(7, .int (kI (0))), (6, .int (kI (1))), (0, .ref b), (1, .ref x1), (2, .ref mm), (3, .ref out), (4, .ref outD), (5, .int (kI ((3 * j : Nat) : Int)))]) hx hb dL_law_538 hl (by decide) rfl (fun ls hl => ?_)
      refine lv_aload_n hx hb dL_law_540 rfl (lv_at hl 4 rfl) ?_
      refine kx_ci0 (va_runV (As := []) (rest := []) ⟨hx, hb, hml, hown, hts⟩ (m_X3_thrown l D H_108 mm ra sa ka ta nh ik t.length (ref_l S gap ((((ln9 : Nat) : Int))) z2) sp9 iw le9 fi9 se9 ho_113 ) (cwV 0 hts (lw_V q2278 q2279 q2280 q89 q2281) rfl rfl rfl (by decide +kernel) ⟨Nat.le_of_ble_eq_true rfl, Nat.le_of_ble_eq_true rfl⟩) (kx_pv hK hS_106 hB (kx_rc hK ho_113 (C := RX3) (T := TX3) (N := 13) rfl)) rfl rfl hl.1 rfl (lv_room (Nat.le_of_ble_eq_true rfl)) dL_law_541 ⟨by first | exact Nat.le_of_ble_eq_true rfl | omega | (dsimp only [lwR]; omega) | (show _ ≤ _; omega), by first | exact Nat.le_of_ble_eq_true rfl | omega | (dsimp only [lwR]; omega) | (show _ ≤ _; omega)⟩) hS_106 (fun z_117 locs_114 hz_116 hS_115 => ?_)
      subst z_117
      refine kx_eqi (1) (rl1n hln hA2) ?_
      refine lv_iload hx hb dL_law_544 (lv_at hl 1 rfl) ?_
      refine kx_icmp_eq (x := 1) (y := 1) (tgt := 551) hx hb dL_law_546 (by decide) (by omega) (by omega) (by omega) (by omega) (fun c_546_118 => ?_) (fun c_546_118 => ?_)
      · -- taken at 546
        refine lv_iload hx hb dL_law_551 (lv_at hl 1 rfl) ?_
        refine kx_if_ne (x := 1) (tgt := 568) hx hb dL_law_553 (by decide) (by omega) (by omega) (fun c_553_119 => ?_) (fun c_553_119 => ?_)
        · -- taken at 553
          refine lv_goto (tgt := 2493) hx hb dL_law_568 (by decide) ?_
          have h_120 := h_101.fr hF_109 (n_mm_ra.sm)
          have h_121 := h_102.fr hF_109 (n_mm_sa.sm)
          have h_122 := h_103.fr hF_109 (n_mm_ka.sm)
          have h_123 := h_104.fr hF_109 (n_mm_ta.sm)
          have h_124 := hA_out.ex hF_95
          have h_125 := h_124.fr hF_109 (n_mm_out.sm)
          have h_126 := hA_outD.ex hF_95
          have h_127 := h_126.fr hF_109 (n_mm_outD.sm)
          have h_128 := hW.ex hd9 hF_95
          have h_129 := h_128.fr hd9 hF_109 (fun x => (ty_mm x))
          refine W.widen (k := cells + 50000) (n := slots + 228000) (by omega) (by omega) ?_
          have hM9 : kM D H_108 c0 out mm (S, gap) ((sl.map Prod.snd).head?) (hl2.map Prod.snd) t := ⟨ra, sa, ka, ta, _, _, _, _, _, _, _, _, _, _, _, _, ho_113, h_120, h_121, h_122, h_123, hMr, hMh, hMk, hMt, ht60, hMd, hMb, hMi⟩
          exact kk (S, gap) ((sl.map Prod.snd).head?) (hl2.map Prod.snd) t _ _ _ ⟨hS_115, lv_sub hl [2, 3, 4, 5, 6, 7] rfl, h_129, hM9, ⟨_, h_125⟩, ⟨_, h_127⟩, by omega, by omega⟩
        · -- not taken at 553
          exfalso; omega
      · -- not taken at 546
        exfalso; omega
  · -- hA
    refine lv_aload_n hx hb dL_law_503 rfl (lv_at hl 1 rfl) ?_
    refine lv_aload_n hx hb dL_law_504 rfl (lv_at hl 0 rfl) ?_
    refine lv_iload hx hb dL_law_505 (lv_at hl 5 rfl) ?_
    refine kx_iconst hx hb dL_law_507 ?_
    refine kx_iadd hx hb dL_law_508 ?_
    refine kx_sld (i := (((3 * j : Nat) : Int) + 1)) hx hb hX hbl hbA hS (3 * j + 1) (by omega) (by omega) (by omega) dL_law_509 ?_
    refine kx_eqi (z1) (hz1.symm) ?_
    refine lv_aload_n hx hb dL_law_510 rfl (lv_at hl 0 rfl) ?_
    refine lv_iload hx hb dL_law_511 (lv_at hl 5 rfl) ?_
    refine kx_iconst hx hb dL_law_513 ?_
    refine kx_iadd hx hb dL_law_514 ?_
    refine kx_sld (i := (((3 * j : Nat) : Int) + 2)) hx hb hX hbl hbA hS (3 * j + 2) (by omega) (by omega) (by omega) dL_law_515 ?_
    refine kx_eqi (z2) (hz2.symm) ?_
    refine lv_aload_n hx hb dL_law_516 rfl (lv_at hl 3 rfl) ?_
    refine kx_ci (vx_runSW (As := [.ref x1, .int (kI (z1)), .int (kI (z2)), .ref out]) (rest := []) ⟨hx, hb, hml, hown, hts⟩ (wx_label_1l l hl9 D H x1 ((sl.map (fun a => a.1.1)).head?) hi bu st la mc9 ea F S gap z1 z2 out hO_x1 hO_st hO_la hLs9 hLn9 (by first | assumption | omega) (by first | assumption | omega) (by first | assumption | omega) (by first | assumption | omega)) (vx_cwSW 4 hts (lw_SW q1889 q1890 q78 q1891) rfl rfl rfl (by decide +kernel) ⟨Nat.le_of_ble_eq_true rfl, Nat.le_of_ble_eq_true rfl⟩) (kx_ps hK hS hB) rfl rfl hl.1 rfl (lv_room (Nat.le_of_ble_eq_true rfl)) dL_law_517 ⟨by first | exact Nat.le_of_ble_eq_true rfl | omega | (dsimp only [lwR]; omega) | (show _ ≤ _; omega), by first | exact Nat.le_of_ble_eq_true rfl | omega | (dsimp only [lwR]; omega) | (show _ ≤ _; omega)⟩) hS (fun q _ h => by have h9 := hS.1; (try dsimp only at h); (try dsimp only); (try simp only [kNW] at h); (try simp only [kNW]); omega) (fun q h => by have h9 := hS.1; (try dsimp only at h); (try dsimp only); (try simp only [kNW] at h); (try simp only [kNW]); omega) (fun z_135 H_133 locs_130 hz_132 hF_134 hS_131 => ?_)
    have hzf_136 := hF_134.1
    have hF_134 := hF_134.nw
    obtain ⟨hv_137, hnw_138⟩ := hz_132
    subst z_135
    refine lv_istore (lv' := [(6, .int (kI (1))), (0, .ref b), (1, .ref x1), (2, .ref mm), (3, .ref out), (4, .ref outD), (5, .int (kI ((3 * j : Nat) : Int)))]) hx hb dL_law_520 hl (by decide) rfl (fun ls hl => ?_)
    refine lv_aload_n hx hb dL_law_522 rfl (lv_at hl 3 rfl) ?_
    refine lv_aload_n hx hb dL_law_523 rfl (lv_at hl 1 rfl) ?_
    refine lv_iload hx hb dL_law_524 (lv_at hl 6 rfl) ?_
    refine kx_iconst hx hb dL_law_526 ?_
    refine kx_iadd hx hb dL_law_527 ?_
    refine kx_sld (i := (((3 * j : Nat) : Int) + 1)) hx hb hX hbl hbA hS_131 (3 * j + 1) (by omega) (by omega) (by omega) dL_law_528 ?_
    refine kx_eqi (z1) (hz1.symm) ?_
    refine lv_aload_n hx hb dL_law_529 rfl (lv_at hl 1 rfl) ?_
    refine lv_iload hx hb dL_law_530 (lv_at hl 6 rfl) ?_
    refine kx_iconst hx hb dL_law_532 ?_
    refine kx_iadd hx hb dL_law_533 ?_
    refine kx_sld (i := (((3 * j : Nat) : Int) + 2)) hx hb hX hbl hbA hS_131 (3 * j + 2) (by omega) (by omega) (by omega) dL_law_534 ?_
    refine kx_eqi (z2) (hz2.symm) ?_
    have h_139 := hO_mm.ex hF_134
    have h_140 := hA_ra.ex hF_134
    have h_141 := hA_sa.ex hF_134
    have h_142 := hA_ka.ex hF_134
    have h_143 := hA_ta.ex hF_134
    have ty_mm : ∀ x, x = mm → H_133.size ≤ x ∨ (kTy D H_133 x ∧ c0 ≤ x ∧ x < c1) := fun x h => by rw [h]; exact Or.inr ⟨Or.inl ⟨2, _, by decide, by decide, by decide, h_139⟩, i_mm.1, w_mm⟩
    refine kx_ci (va_runV (As := [.int (kI (z1)), .int (kI (z2))]) (rest := []) ⟨hx, hb, hml, hown, hts⟩ (m_X3_label_no l D H_133 mm ra sa ka ta nh ik t.length th sp9 iw le9 fi9 se9 g gs S gap ((hl2.map Prod.snd)) z1 z2 h_139 h_140 h_141 (by first | assumption | omega) (by first | assumption | omega) (by first | assumption | omega) n_mm_ra n_mm_sa n_ra_sa b_mm b_ra b_sa (by first | assumption | omega) (by first | assumption | omega) (by rw [rl1 hA]; decide) (by rw [rl1 hA]; decide)) (cwV 2 hts (lw_V q2423 q2424 q2425 q89 q2426) rfl rfl rfl (by decide +kernel) ⟨Nat.le_of_ble_eq_true rfl, Nat.le_of_ble_eq_true rfl⟩) (kx_pv hK hS_131 hB (kx_rc hK h_139 (C := RX3) (T := TX3) (N := 13) rfl)) rfl rfl hl.1 rfl (lv_room (Nat.le_of_ble_eq_true rfl)) dL_law_535 ⟨by first | exact Nat.le_of_ble_eq_true rfl | omega | (dsimp only [lwR]; omega) | (show _ ≤ _; omega), by first | exact Nat.le_of_ble_eq_true rfl | omega | (dsimp only [lwR]; omega) | (show _ ≤ _; omega)⟩) hS_131 (fun q _ h => (ge_mm q) h) (fun q h => (ge_mm q) h) (fun z_149 H_147 locs_144 hz_146 hF_148 hS_145 => ?_)
    have hzf_150 := hF_148.1
    obtain ⟨hv_151, ho_152⟩ := hz_146
    subst z_149
    refine lv_istore (lv' := [(7, .int (kI (0))), (6, .int (kI (1))), (0, .ref b), (1, .ref x1), (2, .ref mm), (3, .ref out), (4, .ref outD), (5, .int (kI ((3 * j : Nat) : Int)))]) hx hb dL_law_538 hl (by decide) rfl (fun ls hl => ?_)
    refine lv_aload_n hx hb dL_law_540 rfl (lv_at hl 4 rfl) ?_
    refine kx_ci0 (va_runV (As := []) (rest := []) ⟨hx, hb, hml, hown, hts⟩ (m_X3_thrown l D H_147 mm ra sa ka ta nh ik t.length (ref_l S gap z1 z2) sp9 iw le9 fi9 se9 ho_152 ) (cwV 0 hts (lw_V q2278 q2279 q2280 q89 q2281) rfl rfl rfl (by decide +kernel) ⟨Nat.le_of_ble_eq_true rfl, Nat.le_of_ble_eq_true rfl⟩) (kx_pv hK hS_145 hB (kx_rc hK ho_152 (C := RX3) (T := TX3) (N := 13) rfl)) rfl rfl hl.1 rfl (lv_room (Nat.le_of_ble_eq_true rfl)) dL_law_541 ⟨by first | exact Nat.le_of_ble_eq_true rfl | omega | (dsimp only [lwR]; omega) | (show _ ≤ _; omega), by first | exact Nat.le_of_ble_eq_true rfl | omega | (dsimp only [lwR]; omega) | (show _ ≤ _; omega)⟩) hS_145 (fun z_156 locs_153 hz_155 hS_154 => ?_)
    subst z_156
    refine kx_eqi (1) (rl1 hA) ?_
    refine lv_iload hx hb dL_law_544 (lv_at hl 1 rfl) ?_
    refine kx_icmp_eq (x := 1) (y := 1) (tgt := 551) hx hb dL_law_546 (by decide) (by omega) (by omega) (by omega) (by omega) (fun c_546_157 => ?_) (fun c_546_157 => ?_)
    · -- taken at 546
      refine lv_iload hx hb dL_law_551 (lv_at hl 1 rfl) ?_
      refine kx_if_ne (x := 1) (tgt := 568) hx hb dL_law_553 (by decide) (by omega) (by omega) (fun c_553_158 => ?_) (fun c_553_158 => ?_)
      · -- taken at 553
        refine lv_goto (tgt := 2493) hx hb dL_law_568 (by decide) ?_
        have h_159 := h_140.fr hF_148 (n_mm_ra.sm)
        have h_160 := h_141.fr hF_148 (n_mm_sa.sm)
        have h_161 := h_142.fr hF_148 (n_mm_ka.sm)
        have h_162 := h_143.fr hF_148 (n_mm_ta.sm)
        have h_163 := hA_out.ex hF_134
        have h_164 := h_163.fr hF_148 (n_mm_out.sm)
        have h_165 := hA_outD.ex hF_134
        have h_166 := h_165.fr hF_148 (n_mm_outD.sm)
        have h_167 := hW.ex hd9 hF_134
        have h_168 := h_167.fr hd9 hF_148 (fun x => (ty_mm x))
        refine W.widen (k := cells + 50000) (n := slots + 228000) (by omega) (by omega) ?_
        have hM9 : kM D H_147 c0 out mm (S, gap) ((sl.map Prod.snd).head?) (hl2.map Prod.snd) t := ⟨ra, sa, ka, ta, _, _, _, _, _, _, _, _, _, _, _, _, ho_152, h_159, h_160, h_161, h_162, hMr, hMh, hMk, hMt, ht60, hMd, hMb, hMi⟩
        exact kk (S, gap) ((sl.map Prod.snd).head?) (hl2.map Prod.snd) t _ _ _ ⟨hS_154, lv_sub hl [2, 3, 4, 5, 6, 7] rfl, h_168, hM9, ⟨_, h_164⟩, ⟨_, h_166⟩, by omega, by omega⟩
      · -- not taken at 553
        exfalso; omega
    · -- not taken at 546
      exfalso; omega

set_option maxHeartbeats 8000000 in
set_option maxRecDepth 100000 in
theorem lc_unlabel {p : Program} {e : Env} {s : State} {m : MethodId} {below : List Frame} {meth : Method} {c : Code} {l : Launch} {D : kG} {b L c0 c1 x1 mm out outD : Nat} {xs : Nat → Int32} {Q : State → Prop} (C0 : lwC D p l s m meth c b L c0 c1 out outD xs) {j : Nat} (hj : 3 * j + 3 ≤ L) {S : Ls} {gap : Int} {sn : Option Sg} {hs : List Sg} {t : List Int} {H : Heap} {locs : List Loc} {ls : Array Slot} (I0 : lwI D s b c0 c1 x1 mm out outD j j (S, gap) sn hs t H locs ls) {cells slots : Nat} (hcl : cells + 50000 ≤ 1200144) (hsl9 : slots + 228000 ≤ 5496058) (kk : ∀ (σ : Sg) (sn : Option Sg) (hs : List Sg) (t : List Int) (H : Heap) (locs : List Loc) (ls : Array Slot), lwI D s b c0 c1 x1 mm out outD j (j + 1) σ sn hs t H locs ls → W p l e lwR s m #[Value.ref b] below meth c H locs (cells + 50000) (slots + 228000) Q (F0 m 2493 ls [])) : W p l e lwR s m #[Value.ref b] below meth c H locs cells slots Q (F0 m 571 ls []) := by
  obtain ⟨hx, hb, hml, hown, hts, hlk, hK, hl9, hX, hbl, hbs, hL72, hc0, hco, hod, hdc⟩ := C0
  obtain ⟨hS, hl, hW, hM, ⟨go, hA_out⟩, ⟨gd, hA_outD⟩, hc1, htl⟩ := I0
  have hB : ∀ q, (kNW s.heap) q → kBase D ≤ q := fun q h => Nat.le_trans hK.size h
  have hbA : ¬ (kNW s.heap) b := fun h => by have h9 : s.heap.size ≤ b := h; omega
  have hd9 := hK.dis
  have hxE : ¬ kBase D ≤ D.2.2.2 2 := hK.tE.out
  obtain ⟨z1, hz1⟩ : ∃ z, z = (xs (3 * j + 1)).toInt := ⟨_, rfl⟩
  obtain ⟨z2, hz2⟩ : ∃ z, z = (xs (3 * j + 2)).toInt := ⟨_, rfl⟩
  have hr1 : -2147483648 ≤ z1 ∧ z1 ≤ 2147483647 := by rw [hz1]; exact i32r _
  have hr2 : -2147483648 ≤ z2 ∧ z2 ≤ 2147483647 := by rw [hz2]; exact i32r _
  obtain ⟨⟨st, la, ea, F⟩, sl, hl2, hi, es, bu, vb, hO_x1, hDq, hTx, hX5, hev, hAl, hDj, hPw, hsl, hsn, hhs⟩ := id hW
  subst hsn
  subst hhs
  obtain ⟨ra, sa, ka, ta, nh, ik, th, sp9, iw, le9, fi9, se9, g, gs, gk, gt, hO_mm, hA_ra, hA_sa, hA_ka, hA_ta, hMr, hMh, hMk, hMt, ht60, hMd, hMb, hMi⟩ := id hM
  have hMr : MRow g S gap := hMr
  have h0 := hAl _ List.mem_cons_self
  have hP_kState_st : kState D H st la ea gap S F := h0.1
  have hok : LsOK S gap := h0.2.1
  have hG : StG S := h0.2.2.1
  have hL8 : S.length ≤ 8 := hok.1
  have hgp := hok.2.1
  have hO_x1 : kO D H x1 0 [.ref st, va_rf ((sl.map (fun a => a.1.1)).head?), .ref hi, .ref bu] := hO_x1
  have hOw : ∀ q, kOwn D st la ea F S.length q → q ∉ [x1, hi, es, bu, vb] ∧ (q < c0 ∨ c1 ≤ q) := h0.2.2.2
  have hev : Hd (es ≠ vb) := hev
  have io_x1 : ∀ x, c0 ≤ x → x < c1 → x ≠ x1 := fun x => out_of (hX5 x1 (by simp)).2
  have io_hi : ∀ x, c0 ≤ x → x < c1 → x ≠ hi := fun x => out_of (hX5 hi (by simp)).2
  have io_es : ∀ x, c0 ≤ x → x < c1 → x ≠ es := fun x => out_of (hX5 es (by simp)).2
  have io_bu : ∀ x, c0 ≤ x → x < c1 → x ≠ bu := fun x => out_of (hX5 bu (by simp)).2
  have io_vb : ∀ x, c0 ≤ x → x < c1 → x ≠ vb := fun x => out_of (hX5 vb (by simp)).2
  have b_x1 := (hX5 x1 (by simp)).1
  have b_hi := (hX5 hi (by simp)).1
  have b_es := (hX5 es (by simp)).1
  have b_bu := (hX5 bu (by simp)).1
  have b_vb := (hX5 vb (by simp)).1
  obtain ⟨⟨⟨n1, n2, n3, n4⟩, n5, n6, n7⟩, n8, n9, n10⟩ := hMd
  have n_mm_ra : Hd (mm ≠ ra) := n1
  have n_mm_sa : Hd (mm ≠ sa) := n2
  have n_mm_ka : Hd (mm ≠ ka) := n3
  have n_mm_ta : Hd (mm ≠ ta) := n4
  have n_ra_sa : Hd (ra ≠ sa) := n5
  have n_ra_ka : Hd (ra ≠ ka) := n6
  have n_ra_ta : Hd (ra ≠ ta) := n7
  have n_sa_ka : Hd (sa ≠ ka) := n8
  have n_sa_ta : Hd (sa ≠ ta) := n9
  have n_ka_ta : Hd (ka ≠ ta) := n10
  have hMd : Hd (((mm ≠ ra ∧ mm ≠ sa ∧ mm ≠ ka ∧ mm ≠ ta) ∧ ra ≠ sa ∧ ra ≠ ka ∧ ra ≠ ta) ∧ sa ≠ ka ∧ sa ≠ ta ∧ ka ≠ ta) := ⟨⟨⟨n1, n2, n3, n4⟩, n5, n6, n7⟩, n8, n9, n10⟩
  clear n1 n2 n3 n4 n5 n6 n7 n8 n9 n10
  obtain ⟨b_mm, b_ra, b_sa, b_ka, b_ta⟩ := id hMb
  obtain ⟨i_mm, i_ra, i_sa, i_ka, i_ta⟩ := id hMi
  have b_out : kBase D ≤ out := by omega
  have hcc : c0 ≤ c1 := by omega
  have w_mm : mm < c1 := by omega
  have n_mm_out : Hd (mm ≠ out) := Nat.ne_of_lt i_mm.2
  have n_mm_outD : Hd (mm ≠ outD) := Nat.ne_of_lt (Nat.lt_trans i_mm.2 hod)
  have w_ra : ra < c1 := by omega
  have n_ra_out : Hd (ra ≠ out) := Nat.ne_of_lt i_ra.2
  have n_ra_outD : Hd (ra ≠ outD) := Nat.ne_of_lt (Nat.lt_trans i_ra.2 hod)
  have w_sa : sa < c1 := by omega
  have n_sa_out : Hd (sa ≠ out) := Nat.ne_of_lt i_sa.2
  have n_sa_outD : Hd (sa ≠ outD) := Nat.ne_of_lt (Nat.lt_trans i_sa.2 hod)
  have w_ka : ka < c1 := by omega
  have n_ka_out : Hd (ka ≠ out) := Nat.ne_of_lt i_ka.2
  have n_ka_outD : Hd (ka ≠ outD) := Nat.ne_of_lt (Nat.lt_trans i_ka.2 hod)
  have w_ta : ta < c1 := by omega
  have n_ta_out : Hd (ta ≠ out) := Nat.ne_of_lt i_ta.2
  have n_ta_outD : Hd (ta ≠ outD) := Nat.ne_of_lt (Nat.lt_trans i_ta.2 hod)
  have ge_mm : ∀ q, q = mm → kNW s.heap q := fun q h => by rw [h]; show s.heap.size ≤ mm; omega
  have ge_ra : ∀ q, q = ra → kNW s.heap q := fun q h => by rw [h]; show s.heap.size ≤ ra; omega
  have ge_sa : ∀ q, q = sa → kNW s.heap q := fun q h => by rw [h]; show s.heap.size ≤ sa; omega
  have ge_ka : ∀ q, q = ka → kNW s.heap q := fun q h => by rw [h]; show s.heap.size ≤ ka; omega
  have ge_ta : ∀ q, q = ta → kNW s.heap q := fun q h => by rw [h]; show s.heap.size ≤ ta; omega
  have ge_out : ∀ q, q = out → kNW s.heap q := fun q h => by rw [h]; show s.heap.size ≤ out; omega
  have n_out_outD : Hd (out ≠ outD) := Nat.ne_of_lt hod
  have w_out : out < c1 := by omega
  have w_outD : outD < c1 := hdc
  have i_outD : c0 ≤ outD := by omega
  have htyo : kTy D H out := Or.inr ⟨2, _, by decide, hA_out⟩
  have htyd : kTy D H outD := Or.inr ⟨3, _, by decide, hA_outD⟩
  have to_out : ∀ x, x = out → H.size ≤ x ∨ (kTy D H x ∧ c0 ≤ x ∧ x < c1) := fun x h => by rw [h]; exact Or.inr ⟨htyo, hco, w_out⟩
  have to_outD : ∀ x, x = outD → H.size ≤ x ∨ (kTy D H x ∧ c0 ≤ x ∧ x < c1) := fun x h => by rw [h]; exact Or.inr ⟨htyd, i_outD, w_outD⟩
  obtain ⟨⟨hO_st, mc9, hO_la⟩, hLs9, hLn9, hF9, hDs9, hb1, hb2, hb3⟩ := id hP_kState_st
  have hnx : ∀ q, kOwn D st la ea F S.length q → q ≠ hi ∧ q ≠ es ∧ q ≠ x1 := fun q hq => by
    have h9 := (hOw q hq).1
    simp only [List.mem_cons, List.not_mem_nil, or_false, not_or] at h9
    exact ⟨h9.2.1, h9.2.2.1, h9.1⟩
  have hnO9 : ∀ q, kOwn D st la ea F S.length q → q ≠ out := fun q hq => (out_of (hOw q hq).2 hco w_out).symm
  have nex : Hd (x1 ≠ hi ∧ x1 ≠ es) := by
    obtain ⟨_, _, _, y1, y2, _⟩ := hDq
    exact ⟨(kO_ne hd9 y1 hO_x1 (by decide) (by decide) (by decide)).symm, kOA_ne hd9 hO_x1 y2 (by decide) (by decide)⟩
  have neo : Hd (hi ≠ out ∧ es ≠ out ∧ x1 ≠ out) := ⟨(io_hi out hco w_out).symm, (io_es out hco w_out).symm, (io_x1 out hco w_out).symm⟩
  by_cases hA : 0 ≤ z1 ∧ z1 < (S.length : Int)
  · -- hA
    obtain ⟨ln9, hv1⟩ : ∃ k : Nat, z1 = (k : Int) := ⟨z1.toNat, by omega⟩
    have hln : ln9 < S.length := by omega
    have hLn := hok.ln hln
    by_cases hA3 : ln_lb (st_ln S ln9) = -1
    · -- hA3
      refine lv_aload_n hx hb dL_law_571 rfl (lv_at hl 1 rfl) ?_
      refine lv_aload_n hx hb dL_law_572 rfl (lv_at hl 0 rfl) ?_
      refine lv_iload hx hb dL_law_573 (lv_at hl 5 rfl) ?_
      refine kx_iconst hx hb dL_law_575 ?_
      refine kx_iadd hx hb dL_law_576 ?_
      refine kx_sld (i := (((3 * j : Nat) : Int) + 1)) hx hb hX hbl hbA hS (3 * j + 1) (by omega) (by omega) (by omega) dL_law_577 ?_
      refine kx_eqi (((ln9 : Nat) : Int)) (hz1.symm.trans hv1) ?_
      refine lv_aload_n hx hb dL_law_578 rfl (lv_at hl 3 rfl) ?_
      refine kx_ci (vx_runSW (As := [.ref x1, .int (kI ((ln9 : Nat) : Int)), .ref out]) (rest := []) ⟨hx, hb, hml, hown, hts⟩ (wx_unlabel_2 l hl9 D H x1 ((sl.map (fun a => a.1.1)).head?) hi bu st la mc9 ea F S gap ln9 out hO_x1 hO_st hO_la hLs9 hLn9 (by first | assumption | omega) (by first | assumption | omega) (by first | assumption | omega)) (vx_cwSW 3 hts (lw_SW q1907 q1908 q78 q1909) rfl rfl rfl (by decide +kernel) ⟨Nat.le_of_ble_eq_true rfl, Nat.le_of_ble_eq_true rfl⟩) (kx_ps hK hS hB) rfl rfl hl.1 rfl (lv_room (Nat.le_of_ble_eq_true rfl)) dL_law_579 ⟨by first | exact Nat.le_of_ble_eq_true rfl | omega | (dsimp only [lwR]; omega) | (show _ ≤ _; omega), by first | exact Nat.le_of_ble_eq_true rfl | omega | (dsimp only [lwR]; omega) | (show _ ≤ _; omega)⟩) hS (fun q _ h => by have h9 := hS.1; (try dsimp only at h); (try dsimp only); (try simp only [kNW] at h); (try simp only [kNW]); omega) (fun q h => by have h9 := hS.1; (try dsimp only at h); (try dsimp only); (try simp only [kNW] at h); (try simp only [kNW]); omega) (fun z_6 H_4 locs_1 hz_3 hF_5 hS_2 => ?_)
      have hzf_7 := hF_5.1
      have hF_5 := hF_5.nw
      obtain ⟨hv_8, hnw_9⟩ := hz_3
      subst z_6
      refine lv_istore (lv' := [(6, .int (kI (2))), (0, .ref b), (1, .ref x1), (2, .ref mm), (3, .ref out), (4, .ref outD), (5, .int (kI ((3 * j : Nat) : Int)))]) hx hb dL_law_582 hl (by decide) rfl (fun ls hl => ?_)
      refine lv_aload_n hx hb dL_law_584 rfl (lv_at hl 3 rfl) ?_
      refine lv_aload_n hx hb dL_law_585 rfl (lv_at hl 1 rfl) ?_
      refine lv_iload hx hb dL_law_586 (lv_at hl 6 rfl) ?_
      refine kx_iconst hx hb dL_law_588 ?_
      refine kx_iadd hx hb dL_law_589 ?_
      refine kx_sld (i := (((3 * j : Nat) : Int) + 1)) hx hb hX hbl hbA hS_2 (3 * j + 1) (by omega) (by omega) (by omega) dL_law_590 ?_
      refine kx_eqi (((ln9 : Nat) : Int)) (hz1.symm.trans hv1) ?_
      have h_10 := hO_mm.ex hF_5
      have h_11 := hA_ra.ex hF_5
      have h_12 := hA_sa.ex hF_5
      have h_13 := hA_ka.ex hF_5
      have h_14 := hA_ta.ex hF_5
      have ty_mm : ∀ x, x = mm → H_4.size ≤ x ∨ (kTy D H_4 x ∧ c0 ≤ x ∧ x < c1) := fun x h => by rw [h]; exact Or.inr ⟨Or.inl ⟨2, _, by decide, by decide, by decide, h_10⟩, i_mm.1, w_mm⟩
      refine kx_ci (va_runV (As := [.int (kI ((ln9 : Nat) : Int))]) (rest := []) ⟨hx, hb, hml, hown, hts⟩ (m_X3_unlabel_no l D H_4 mm ra sa ka ta nh ik t.length th sp9 iw le9 fi9 se9 g gs S gap ((hl2.map Prod.snd)) (((ln9 : Nat) : Int)) h_10 h_11 h_12 (by first | assumption | omega) (by first | assumption | omega) (by first | assumption | omega) n_mm_ra n_mm_sa n_ra_sa b_mm b_ra b_sa (by first | assumption | omega) (by rw [ru2 hln hA3]; decide) (by rw [ru2 hln hA3]; decide)) (cwV 1 hts (lw_V q2427 q2428 q2429 q89 q2430) rfl rfl rfl (by decide +kernel) ⟨Nat.le_of_ble_eq_true rfl, Nat.le_of_ble_eq_true rfl⟩) (kx_pv hK hS_2 hB (kx_rc hK h_10 (C := RX3) (T := TX3) (N := 13) rfl)) rfl rfl hl.1 rfl (lv_room (Nat.le_of_ble_eq_true rfl)) dL_law_591 ⟨by first | exact Nat.le_of_ble_eq_true rfl | omega | (dsimp only [lwR]; omega) | (show _ ≤ _; omega), by first | exact Nat.le_of_ble_eq_true rfl | omega | (dsimp only [lwR]; omega) | (show _ ≤ _; omega)⟩) hS_2 (fun q _ h => (ge_mm q) h) (fun q h => (ge_mm q) h) (fun z_20 H_18 locs_15 hz_17 hF_19 hS_16 => ?_)
      have hzf_21 := hF_19.1
      obtain ⟨hv_22, ho_23⟩ := hz_17
      subst z_20
      refine lv_istore (lv' := [(7, .int (kI (0))), (6, .int (kI (2))), (0, .ref b), (1, .ref x1), (2, .ref mm), (3, .ref out), (4, .ref outD), (5, .int (kI ((3 * j : Nat) : Int)))]) hx hb dL_law_594 hl (by decide) rfl (fun ls hl => ?_)
      refine lv_aload_n hx hb dL_law_596 rfl (lv_at hl 4 rfl) ?_
      refine kx_ci0 (va_runV (As := []) (rest := []) ⟨hx, hb, hml, hown, hts⟩ (m_X3_thrown l D H_18 mm ra sa ka ta nh ik t.length (ref_u S ((((ln9 : Nat) : Int)))) sp9 iw le9 fi9 se9 ho_23 ) (cwV 0 hts (lw_V q2278 q2279 q2280 q89 q2281) rfl rfl rfl (by decide +kernel) ⟨Nat.le_of_ble_eq_true rfl, Nat.le_of_ble_eq_true rfl⟩) (kx_pv hK hS_16 hB (kx_rc hK ho_23 (C := RX3) (T := TX3) (N := 13) rfl)) rfl rfl hl.1 rfl (lv_room (Nat.le_of_ble_eq_true rfl)) dL_law_597 ⟨by first | exact Nat.le_of_ble_eq_true rfl | omega | (dsimp only [lwR]; omega) | (show _ ≤ _; omega), by first | exact Nat.le_of_ble_eq_true rfl | omega | (dsimp only [lwR]; omega) | (show _ ≤ _; omega)⟩) hS_16 (fun z_27 locs_24 hz_26 hS_25 => ?_)
      subst z_27
      refine kx_eqi (2) (ru2 hln hA3) ?_
      refine lv_iload hx hb dL_law_600 (lv_at hl 1 rfl) ?_
      refine kx_icmp_eq (x := 2) (y := 2) (tgt := 607) hx hb dL_law_602 (by decide) (by omega) (by omega) (by omega) (by omega) (fun c_602_28 => ?_) (fun c_602_28 => ?_)
      · -- taken at 602
        refine lv_iload hx hb dL_law_607 (lv_at hl 1 rfl) ?_
        refine kx_if_ne (x := 2) (tgt := 624) hx hb dL_law_609 (by decide) (by omega) (by omega) (fun c_609_29 => ?_) (fun c_609_29 => ?_)
        · -- taken at 609
          refine lv_goto (tgt := 2493) hx hb dL_law_624 (by decide) ?_
          have h_30 := h_11.fr hF_19 (n_mm_ra.sm)
          have h_31 := h_12.fr hF_19 (n_mm_sa.sm)
          have h_32 := h_13.fr hF_19 (n_mm_ka.sm)
          have h_33 := h_14.fr hF_19 (n_mm_ta.sm)
          have h_34 := hA_out.ex hF_5
          have h_35 := h_34.fr hF_19 (n_mm_out.sm)
          have h_36 := hA_outD.ex hF_5
          have h_37 := h_36.fr hF_19 (n_mm_outD.sm)
          have h_38 := hW.ex hd9 hF_5
          have h_39 := h_38.fr hd9 hF_19 (fun x => (ty_mm x))
          refine W.widen (k := cells + 50000) (n := slots + 228000) (by omega) (by omega) ?_
          have hM9 : kM D H_18 c0 out mm (S, gap) ((sl.map Prod.snd).head?) (hl2.map Prod.snd) t := ⟨ra, sa, ka, ta, _, _, _, _, _, _, _, _, _, _, _, _, ho_23, h_30, h_31, h_32, h_33, hMr, hMh, hMk, hMt, ht60, hMd, hMb, hMi⟩
          exact kk (S, gap) ((sl.map Prod.snd).head?) (hl2.map Prod.snd) t _ _ _ ⟨hS_25, lv_sub hl [2, 3, 4, 5, 6, 7] rfl, h_39, hM9, ⟨_, h_35⟩, ⟨_, h_37⟩, by omega, by omega⟩
        · -- not taken at 609
          exfalso; omega
      · -- not taken at 602
        exfalso; omega
    · -- hA3
      have hr9 := hLn.lbr
      have hrv : -2147483648 ≤ ln_lb (st_ln S ln9) ∧ ln_lb (st_ln S ln9) ≤ 2147483647 := ⟨by omega, by omega⟩
      refine lv_aload_n hx hb dL_law_571 rfl (lv_at hl 1 rfl) ?_
      refine lv_aload_n hx hb dL_law_572 rfl (lv_at hl 0 rfl) ?_
      refine lv_iload hx hb dL_law_573 (lv_at hl 5 rfl) ?_
      refine kx_iconst hx hb dL_law_575 ?_
      refine kx_iadd hx hb dL_law_576 ?_
      refine kx_sld (i := (((3 * j : Nat) : Int) + 1)) hx hb hX hbl hbA hS (3 * j + 1) (by omega) (by omega) (by omega) dL_law_577 ?_
      refine kx_eqi (((ln9 : Nat) : Int)) (hz1.symm.trans hv1) ?_
      refine lv_aload_n hx hb dL_law_578 rfl (lv_at hl 3 rfl) ?_
      refine kx_ci (vx_runSW (As := [.ref x1, .int (kI ((ln9 : Nat) : Int)), .ref out]) (rest := []) ⟨hx, hb, hml, hown, hts⟩ (wr_unlabel l hl9 D H x1 ((sl.map (fun a => a.1.1)).head?) hi bu es ((hl2.map (fun a => a.1.1))) st la ea F S gap ln9 out go hO_x1 hP_kState_st hDq hA_out (by first | assumption | omega) (by first | assumption | omega) (by first | assumption | omega) (by first | assumption | omega) nex (by first | assumption | omega) (by first | assumption | omega) (by first | assumption | omega) (by first | assumption | omega) neo (by first | assumption | omega)) (vx_cwSW 3 hts (lw_SW q1907 q1908 q78 q1909) rfl rfl rfl (by decide +kernel) ⟨Nat.le_of_ble_eq_true rfl, Nat.le_of_ble_eq_true rfl⟩) (kx_ps hK hS hB) rfl rfl hl.1 rfl (lv_room (Nat.le_of_ble_eq_true rfl)) dL_law_579 ⟨by first | exact Nat.le_of_ble_eq_true rfl | omega | (dsimp only [lwR]; omega) | (show _ ≤ _; omega), by first | exact Nat.le_of_ble_eq_true rfl | omega | (dsimp only [lwR]; omega) | (show _ ≤ _; omega)⟩) hS (fun q _ h => (fun h => Or.elim h (ge_out q) (fun h => Or.elim h (fun h => by have h8 := hP_kState_st.ownge h; show s.heap.size ≤ q; omega) (fun h => Or.elim h (fun h => by rw [h]; show s.heap.size ≤ hi; omega) (fun h => Or.elim h (fun h => by rw [h]; show s.heap.size ≤ es; omega) (fun h => Nat.le_trans hS.1 h))))) h) (fun q h => (fun h => Or.elim h (ge_out q) (fun h => Or.elim h (fun h => by have h8 := hP_kState_st.ownge h; show s.heap.size ≤ q; omega) (fun h => Or.elim h (fun h => by rw [h]; show s.heap.size ≤ hi; omega) (fun h => Or.elim h (fun h => by rw [h]; show s.heap.size ≤ es; omega) (fun h => Nat.le_trans hS.1 h))))) h) (fun z_45 H_43 locs_40 hz_42 hF_44 hS_41 => ?_)
      have hzf_46 := hF_44.1
      obtain ⟨crw, la2w, ea2w, F2w, ea3w, F3w, hv_53, ho_54, ho_55, ho_56, ho_57, ho_58, hw1, hw2, hw3⟩ := hz_42
      subst z_45
      have hW9 : kW D H_43 c0 c1 x1 (S.set ln9 (w_lb (st_ln S ln9) (-1)), gap) ((sl.map Prod.snd).head?) (pushH (hl2.map Prod.snd) (S, gap)) t := kW.change (out := out) hd9 hxE hO_x1 hDq hTx hX5 hev hAl hDj hPw hsl hF_44 htyo ⟨hco, w_out⟩ hc1 ho_54 ho_55 ho_56 ho_57 hw1 hw2 hw3 (hok.set hln (hLn.setLb (Or.inl rfl))) (hG.set hln rfl rfl)
      refine lv_istore (lv' := [(6, .int (kI (0))), (0, .ref b), (1, .ref x1), (2, .ref mm), (3, .ref out), (4, .ref outD), (5, .int (kI ((3 * j : Nat) : Int)))]) hx hb dL_law_582 hl (by decide) rfl (fun ls hl => ?_)
      refine lv_aload_n hx hb dL_law_584 rfl (lv_at hl 3 rfl) ?_
      refine lv_aload_n hx hb dL_law_585 rfl (lv_at hl 1 rfl) ?_
      refine lv_iload hx hb dL_law_586 (lv_at hl 6 rfl) ?_
      refine kx_iconst hx hb dL_law_588 ?_
      refine kx_iadd hx hb dL_law_589 ?_
      refine kx_sld (i := (((3 * j : Nat) : Int) + 1)) hx hb hX hbl hbA hS_41 (3 * j + 1) (by omega) (by omega) (by omega) dL_law_590 ?_
      refine kx_eqi (((ln9 : Nat) : Int)) (hz1.symm.trans hv1) ?_
      have h_59 := hO_mm.fr hF_44 (fun h => Or.elim h (n_mm_out) (fun h => Or.elim h (fun h => out_of (hOw _ h).2 i_mm.1 w_mm rfl) (fun h => Or.elim h (io_hi _ i_mm.1 w_mm) (fun h => Or.elim h (io_es _ i_mm.1 w_mm) (fun h => Nat.not_le_of_gt hO_mm.lt h)))))
      have h_60 := hA_ra.fr hF_44 (fun h => Or.elim h (n_ra_out) (fun h => Or.elim h (fun h => out_of (hOw _ h).2 i_ra.1 w_ra rfl) (fun h => Or.elim h (io_hi _ i_ra.1 w_ra) (fun h => Or.elim h (io_es _ i_ra.1 w_ra) (fun h => Nat.not_le_of_gt hA_ra.lt h)))))
      have h_61 := hA_sa.fr hF_44 (fun h => Or.elim h (n_sa_out) (fun h => Or.elim h (fun h => out_of (hOw _ h).2 i_sa.1 w_sa rfl) (fun h => Or.elim h (io_hi _ i_sa.1 w_sa) (fun h => Or.elim h (io_es _ i_sa.1 w_sa) (fun h => Nat.not_le_of_gt hA_sa.lt h)))))
      have h_62 := hA_ka.fr hF_44 (fun h => Or.elim h (n_ka_out) (fun h => Or.elim h (fun h => out_of (hOw _ h).2 i_ka.1 w_ka rfl) (fun h => Or.elim h (io_hi _ i_ka.1 w_ka) (fun h => Or.elim h (io_es _ i_ka.1 w_ka) (fun h => Nat.not_le_of_gt hA_ka.lt h)))))
      have h_63 := hA_ta.fr hF_44 (fun h => Or.elim h (n_ta_out) (fun h => Or.elim h (fun h => out_of (hOw _ h).2 i_ta.1 w_ta rfl) (fun h => Or.elim h (io_hi _ i_ta.1 w_ta) (fun h => Or.elim h (io_es _ i_ta.1 w_ta) (fun h => Nat.not_le_of_gt hA_ta.lt h)))))
      have ty_mm : ∀ x, x = mm → H_43.size ≤ x ∨ (kTy D H_43 x ∧ c0 ≤ x ∧ x < c1) := fun x h => by rw [h]; exact Or.inr ⟨Or.inl ⟨2, _, by decide, by decide, by decide, h_59⟩, i_mm.1, w_mm⟩
      have ty_ra : ∀ x, x = ra → H_43.size ≤ x ∨ (kTy D H_43 x ∧ c0 ≤ x ∧ x < c1) := fun x h => by rw [h]; exact Or.inr ⟨Or.inr ⟨0, _, by decide, h_60⟩, i_ra.1, w_ra⟩
      have ty_sa : ∀ x, x = sa → H_43.size ≤ x ∨ (kTy D H_43 x ∧ c0 ≤ x ∧ x < c1) := fun x h => by rw [h]; exact Or.inr ⟨Or.inr ⟨0, _, by decide, h_61⟩, i_sa.1, w_sa⟩
      refine kx_ci (va_runV (As := [.int (kI ((ln9 : Nat) : Int))]) (rest := []) ⟨hx, hb, hml, hown, hts⟩ (m_X3_unlabel l D H_43 mm ra sa ka ta nh ik t.length th sp9 iw le9 fi9 se9 g gs S gap ((hl2.map Prod.snd)) ln9 h_59 h_60 h_61 (by first | assumption | omega) (by first | assumption | omega) (by first | assumption | omega) n_mm_ra n_mm_sa n_ra_sa b_mm b_ra b_sa (by first | assumption | omega) (ru0 hln hA3)) (cwV 1 hts (lw_V q2427 q2428 q2429 q89 q2430) rfl rfl rfl (by decide +kernel) ⟨Nat.le_of_ble_eq_true rfl, Nat.le_of_ble_eq_true rfl⟩) (kx_pv hK hS_41 hB (kx_rc hK h_59 (C := RX3) (T := TX3) (N := 13) rfl)) rfl rfl hl.1 rfl (lv_room (Nat.le_of_ble_eq_true rfl)) dL_law_591 ⟨by first | exact Nat.le_of_ble_eq_true rfl | omega | (dsimp only [lwR]; omega) | (show _ ≤ _; omega), by first | exact Nat.le_of_ble_eq_true rfl | omega | (dsimp only [lwR]; omega) | (show _ ≤ _; omega)⟩) hS_41 (fun q _ h => (fun h => Or.elim h (ge_mm q) (fun h => Or.elim h (ge_ra q) (ge_sa q))) h) (fun q h => (fun h => Or.elim h (ge_mm q) (fun h => Or.elim h (ge_ra q) (ge_sa q))) h) (fun z_69 H_67 locs_64 hz_66 hF_68 hS_65 => ?_)
      have hzf_70 := hF_68.1
      obtain ⟨g2_71, gs2_72, sn2_73, hv_74, ho_75, ho_76, ho_77, hM29, hH29⟩ := hz_66
      subst z_69
      refine lv_istore (lv' := [(7, .int (kI (ln_lb (st_ln S ln9)))), (6, .int (kI (0))), (0, .ref b), (1, .ref x1), (2, .ref mm), (3, .ref out), (4, .ref outD), (5, .int (kI ((3 * j : Nat) : Int)))]) hx hb dL_law_594 hl (by decide) rfl (fun ls hl => ?_)
      refine lv_aload_n hx hb dL_law_596 rfl (lv_at hl 4 rfl) ?_
      refine kx_ci0 (va_runV (As := []) (rest := []) ⟨hx, hb, hml, hown, hts⟩ (m_X3_thrown l D H_67 mm ra sa ka ta sn2_73 ik t.length 0 sp9 iw le9 fi9 se9 ho_75 ) (cwV 0 hts (lw_V q2278 q2279 q2280 q89 q2281) rfl rfl rfl (by decide +kernel) ⟨Nat.le_of_ble_eq_true rfl, Nat.le_of_ble_eq_true rfl⟩) (kx_pv hK hS_65 hB (kx_rc hK ho_75 (C := RX3) (T := TX3) (N := 13) rfl)) rfl rfl hl.1 rfl (lv_room (Nat.le_of_ble_eq_true rfl)) dL_law_597 ⟨by first | exact Nat.le_of_ble_eq_true rfl | omega | (dsimp only [lwR]; omega) | (show _ ≤ _; omega), by first | exact Nat.le_of_ble_eq_true rfl | omega | (dsimp only [lwR]; omega) | (show _ ≤ _; omega)⟩) hS_65 (fun z_81 locs_78 hz_80 hS_79 => ?_)
      subst z_81
      refine lv_iload hx hb dL_law_600 (lv_at hl 1 rfl) ?_
      refine kx_icmp_eq (x := 0) (y := 0) (tgt := 607) hx hb dL_law_602 (by decide) (by omega) (by omega) (by omega) (by omega) (fun c_602_82 => ?_) (fun c_602_82 => ?_)
      · -- taken at 602
        refine lv_iload hx hb dL_law_607 (lv_at hl 1 rfl) ?_
        refine kx_if_ne (x := 0) (tgt := 624) hx hb dL_law_609 (by decide) (by omega) (by omega) (fun c_609_83 => ?_) (fun c_609_83 => ?_)
        · -- taken at 609
          exfalso; omega
        · -- not taken at 609
          refine lv_aload_n hx hb dL_law_612 rfl (lv_at hl 5 rfl) ?_
          refine kx_iconst hx hb dL_law_613 ?_
          have h_84 := ho_58.fr hF_68 (fun h => Or.elim h (n_mm_out.sm) (fun h => Or.elim h (n_ra_out.sm) (n_sa_out.sm)))
          refine kx_lald (i := 0) hx hb hK h_84 0 rfl (by decide) (by decide) dL_law_614 ?_
          refine lv_iload hx hb dL_law_615 (lv_at hl 0 rfl) ?_
          refine kx_i2l hx hb (z := ln_lb (st_ln S ln9)) (by omega) (by omega) dL_law_617 ?_
          refine kx_lcmpE hx hb (x := ((kup go 0 (kL (ln_lb (st_ln S ln9))))) 0) (y := kL (ln_lb (st_ln S ln9))) (kup_self _ _ _) dL_law_618 ?_
          refine kx_if_eq (x := 0) (tgt := 624) hx hb dL_law_619 (by decide) (by omega) (by omega) (fun c_619_85 => ?_) (fun c_619_85 => ?_)
          · -- taken at 619
            refine lv_goto (tgt := 2493) hx hb dL_law_624 (by decide) ?_
            have h_86 := h_62.fr hF_68 (fun h => Or.elim h (n_mm_ka.sm) (fun h => Or.elim h (n_ra_ka.sm) (n_sa_ka.sm)))
            have h_87 := h_63.fr hF_68 (fun h => Or.elim h (n_mm_ta.sm) (fun h => Or.elim h (n_ra_ta.sm) (n_sa_ta.sm)))
            have h_88 := hA_outD.fr hF_44 (fun h => Or.elim h (n_out_outD.sm) (fun h => Or.elim h (fun h => out_of (hOw _ h).2 i_outD w_outD rfl) (fun h => Or.elim h (io_hi _ i_outD w_outD) (fun h => Or.elim h (io_es _ i_outD w_outD) (fun h => Nat.not_le_of_gt hA_outD.lt h)))))
            have h_89 := h_88.fr hF_68 (fun h => Or.elim h (n_mm_outD.sm) (fun h => Or.elim h (n_ra_outD.sm) (n_sa_outD.sm)))
            have h_90 := hW9.fr hd9 hF_68 (fun x => (fun h => Or.elim h (ty_mm x) (fun h => Or.elim h (ty_ra x) (ty_sa x))))
            refine W.widen (k := cells + 50000) (n := slots + 228000) (by omega) (by omega) ?_
            have hM9 : kM D H_67 c0 out mm (S.set ln9 (w_lb (st_ln S ln9) (-1)), gap) ((sl.map Prod.snd).head?) (pushH (hl2.map Prod.snd) (S, gap)) t := ⟨ra, sa, ka, ta, _, _, _, _, _, _, _, _, _, _, _, _, ho_75, ho_76, ho_77, h_86, h_87, hM29, hH29, hMk, hMt, ht60, hMd, hMb, hMi⟩
            exact kk (S.set ln9 (w_lb (st_ln S ln9) (-1)), gap) ((sl.map Prod.snd).head?) (pushH (hl2.map Prod.snd) (S, gap)) t _ _ _ ⟨hS_79, lv_sub hl [2, 3, 4, 5, 6, 7] rfl, h_90, hM9, ⟨_, h_84⟩, ⟨_, h_89⟩, by omega, by omega⟩
          · -- not taken at 619
            exfalso; omega
      · -- not taken at 602
        exfalso; omega
  · -- hA
    refine lv_aload_n hx hb dL_law_571 rfl (lv_at hl 1 rfl) ?_
    refine lv_aload_n hx hb dL_law_572 rfl (lv_at hl 0 rfl) ?_
    refine lv_iload hx hb dL_law_573 (lv_at hl 5 rfl) ?_
    refine kx_iconst hx hb dL_law_575 ?_
    refine kx_iadd hx hb dL_law_576 ?_
    refine kx_sld (i := (((3 * j : Nat) : Int) + 1)) hx hb hX hbl hbA hS (3 * j + 1) (by omega) (by omega) (by omega) dL_law_577 ?_
    refine kx_eqi (z1) (hz1.symm) ?_
    refine lv_aload_n hx hb dL_law_578 rfl (lv_at hl 3 rfl) ?_
    refine kx_ci (vx_runSW (As := [.ref x1, .int (kI (z1)), .ref out]) (rest := []) ⟨hx, hb, hml, hown, hts⟩ (wx_unlabel l hl9 D H x1 ((sl.map (fun a => a.1.1)).head?) hi bu st la mc9 ea F S gap z1 out hO_x1 hO_st hO_la hLs9 hLn9 (by first | assumption | omega) (by first | assumption | omega) (by first | assumption | omega)) (vx_cwSW 3 hts (lw_SW q1907 q1908 q78 q1909) rfl rfl rfl (by decide +kernel) ⟨Nat.le_of_ble_eq_true rfl, Nat.le_of_ble_eq_true rfl⟩) (kx_ps hK hS hB) rfl rfl hl.1 rfl (lv_room (Nat.le_of_ble_eq_true rfl)) dL_law_579 ⟨by first | exact Nat.le_of_ble_eq_true rfl | omega | (dsimp only [lwR]; omega) | (show _ ≤ _; omega), by first | exact Nat.le_of_ble_eq_true rfl | omega | (dsimp only [lwR]; omega) | (show _ ≤ _; omega)⟩) hS (fun q _ h => by have h9 := hS.1; (try dsimp only at h); (try dsimp only); (try simp only [kNW] at h); (try simp only [kNW]); omega) (fun q h => by have h9 := hS.1; (try dsimp only at h); (try dsimp only); (try simp only [kNW] at h); (try simp only [kNW]); omega) (fun z_96 H_94 locs_91 hz_93 hF_95 hS_92 => ?_)
    have hzf_97 := hF_95.1
    have hF_95 := hF_95.nw
    obtain ⟨hv_98, hnw_99⟩ := hz_93
    subst z_96
    refine lv_istore (lv' := [(6, .int (kI (1))), (0, .ref b), (1, .ref x1), (2, .ref mm), (3, .ref out), (4, .ref outD), (5, .int (kI ((3 * j : Nat) : Int)))]) hx hb dL_law_582 hl (by decide) rfl (fun ls hl => ?_)
    refine lv_aload_n hx hb dL_law_584 rfl (lv_at hl 3 rfl) ?_
    refine lv_aload_n hx hb dL_law_585 rfl (lv_at hl 1 rfl) ?_
    refine lv_iload hx hb dL_law_586 (lv_at hl 6 rfl) ?_
    refine kx_iconst hx hb dL_law_588 ?_
    refine kx_iadd hx hb dL_law_589 ?_
    refine kx_sld (i := (((3 * j : Nat) : Int) + 1)) hx hb hX hbl hbA hS_92 (3 * j + 1) (by omega) (by omega) (by omega) dL_law_590 ?_
    refine kx_eqi (z1) (hz1.symm) ?_
    have h_100 := hO_mm.ex hF_95
    have h_101 := hA_ra.ex hF_95
    have h_102 := hA_sa.ex hF_95
    have h_103 := hA_ka.ex hF_95
    have h_104 := hA_ta.ex hF_95
    have ty_mm : ∀ x, x = mm → H_94.size ≤ x ∨ (kTy D H_94 x ∧ c0 ≤ x ∧ x < c1) := fun x h => by rw [h]; exact Or.inr ⟨Or.inl ⟨2, _, by decide, by decide, by decide, h_100⟩, i_mm.1, w_mm⟩
    refine kx_ci (va_runV (As := [.int (kI (z1))]) (rest := []) ⟨hx, hb, hml, hown, hts⟩ (m_X3_unlabel_no l D H_94 mm ra sa ka ta nh ik t.length th sp9 iw le9 fi9 se9 g gs S gap ((hl2.map Prod.snd)) z1 h_100 h_101 h_102 (by first | assumption | omega) (by first | assumption | omega) (by first | assumption | omega) n_mm_ra n_mm_sa n_ra_sa b_mm b_ra b_sa (by first | assumption | omega) (by rw [ru1 hA]; decide) (by rw [ru1 hA]; decide)) (cwV 1 hts (lw_V q2427 q2428 q2429 q89 q2430) rfl rfl rfl (by decide +kernel) ⟨Nat.le_of_ble_eq_true rfl, Nat.le_of_ble_eq_true rfl⟩) (kx_pv hK hS_92 hB (kx_rc hK h_100 (C := RX3) (T := TX3) (N := 13) rfl)) rfl rfl hl.1 rfl (lv_room (Nat.le_of_ble_eq_true rfl)) dL_law_591 ⟨by first | exact Nat.le_of_ble_eq_true rfl | omega | (dsimp only [lwR]; omega) | (show _ ≤ _; omega), by first | exact Nat.le_of_ble_eq_true rfl | omega | (dsimp only [lwR]; omega) | (show _ ≤ _; omega)⟩) hS_92 (fun q _ h => (ge_mm q) h) (fun q h => (ge_mm q) h) (fun z_110 H_108 locs_105 hz_107 hF_109 hS_106 => ?_)
    have hzf_111 := hF_109.1
    obtain ⟨hv_112, ho_113⟩ := hz_107
    subst z_110
    refine lv_istore (lv' := [(7, .int (kI (0))), (6, .int (kI (1))), (0, .ref b), (1, .ref x1), (2, .ref mm), (3, .ref out), (4, .ref outD), (5, .int (kI ((3 * j : Nat) : Int)))]) hx hb dL_law_594 hl (by decide) rfl (fun ls hl => ?_)
    refine lv_aload_n hx hb dL_law_596 rfl (lv_at hl 4 rfl) ?_
    refine kx_ci0 (va_runV (As := []) (rest := []) ⟨hx, hb, hml, hown, hts⟩ (m_X3_thrown l D H_108 mm ra sa ka ta nh ik t.length (ref_u S z1) sp9 iw le9 fi9 se9 ho_113 ) (cwV 0 hts (lw_V q2278 q2279 q2280 q89 q2281) rfl rfl rfl (by decide +kernel) ⟨Nat.le_of_ble_eq_true rfl, Nat.le_of_ble_eq_true rfl⟩) (kx_pv hK hS_106 hB (kx_rc hK ho_113 (C := RX3) (T := TX3) (N := 13) rfl)) rfl rfl hl.1 rfl (lv_room (Nat.le_of_ble_eq_true rfl)) dL_law_597 ⟨by first | exact Nat.le_of_ble_eq_true rfl | omega | (dsimp only [lwR]; omega) | (show _ ≤ _; omega), by first | exact Nat.le_of_ble_eq_true rfl | omega | (dsimp only [lwR]; omega) | (show _ ≤ _; omega)⟩) hS_106 (fun z_117 locs_114 hz_116 hS_115 => ?_)
    subst z_117
    refine kx_eqi (1) (ru1 hA) ?_
    refine lv_iload hx hb dL_law_600 (lv_at hl 1 rfl) ?_
    refine kx_icmp_eq (x := 1) (y := 1) (tgt := 607) hx hb dL_law_602 (by decide) (by omega) (by omega) (by omega) (by omega) (fun c_602_118 => ?_) (fun c_602_118 => ?_)
    · -- taken at 602
      refine lv_iload hx hb dL_law_607 (lv_at hl 1 rfl) ?_
      refine kx_if_ne (x := 1) (tgt := 624) hx hb dL_law_609 (by decide) (by omega) (by omega) (fun c_609_119 => ?_) (fun c_609_119 => ?_)
      · -- taken at 609
        refine lv_goto (tgt := 2493) hx hb dL_law_624 (by decide) ?_
        have h_120 := h_101.fr hF_109 (n_mm_ra.sm)
        have h_121 := h_102.fr hF_109 (n_mm_sa.sm)
        have h_122 := h_103.fr hF_109 (n_mm_ka.sm)
        have h_123 := h_104.fr hF_109 (n_mm_ta.sm)
        have h_124 := hA_out.ex hF_95
        have h_125 := h_124.fr hF_109 (n_mm_out.sm)
        have h_126 := hA_outD.ex hF_95
        have h_127 := h_126.fr hF_109 (n_mm_outD.sm)
        have h_128 := hW.ex hd9 hF_95
        have h_129 := h_128.fr hd9 hF_109 (fun x => (ty_mm x))
        refine W.widen (k := cells + 50000) (n := slots + 228000) (by omega) (by omega) ?_
        have hM9 : kM D H_108 c0 out mm (S, gap) ((sl.map Prod.snd).head?) (hl2.map Prod.snd) t := ⟨ra, sa, ka, ta, _, _, _, _, _, _, _, _, _, _, _, _, ho_113, h_120, h_121, h_122, h_123, hMr, hMh, hMk, hMt, ht60, hMd, hMb, hMi⟩
        exact kk (S, gap) ((sl.map Prod.snd).head?) (hl2.map Prod.snd) t _ _ _ ⟨hS_115, lv_sub hl [2, 3, 4, 5, 6, 7] rfl, h_129, hM9, ⟨_, h_125⟩, ⟨_, h_127⟩, by omega, by omega⟩
      · -- not taken at 609
        exfalso; omega
    · -- not taken at 602
      exfalso; omega

set_option maxHeartbeats 8000000 in
set_option maxRecDepth 100000 in
theorem lc_labelBest {p : Program} {e : Env} {s : State} {m : MethodId} {below : List Frame} {meth : Method} {c : Code} {l : Launch} {D : kG} {b L c0 c1 x1 mm out outD : Nat} {xs : Nat → Int32} {Q : State → Prop} (C0 : lwC D p l s m meth c b L c0 c1 out outD xs) {j : Nat} (hj : 3 * j + 3 ≤ L) {S : Ls} {gap : Int} {sn : Option Sg} {hs : List Sg} {t : List Int} {H : Heap} {locs : List Loc} {ls : Array Slot} (I0 : lwI D s b c0 c1 x1 mm out outD j j (S, gap) sn hs t H locs ls) {cells slots : Nat} (hcl : cells + 50000 ≤ 1200144) (hsl9 : slots + 228000 ≤ 5496058) (kk : ∀ (σ : Sg) (sn : Option Sg) (hs : List Sg) (t : List Int) (H : Heap) (locs : List Loc) (ls : Array Slot), lwI D s b c0 c1 x1 mm out outD j (j + 1) σ sn hs t H locs ls → W p l e lwR s m #[Value.ref b] below meth c H locs (cells + 50000) (slots + 228000) Q (F0 m 2493 ls [])) : W p l e lwR s m #[Value.ref b] below meth c H locs cells slots Q (F0 m 627 ls []) := by
  obtain ⟨hx, hb, hml, hown, hts, hlk, hK, hl9, hX, hbl, hbs, hL72, hc0, hco, hod, hdc⟩ := C0
  obtain ⟨hS, hl, hW, hM, ⟨go, hA_out⟩, ⟨gd, hA_outD⟩, hc1, htl⟩ := I0
  have hB : ∀ q, (kNW s.heap) q → kBase D ≤ q := fun q h => Nat.le_trans hK.size h
  have hbA : ¬ (kNW s.heap) b := fun h => by have h9 : s.heap.size ≤ b := h; omega
  have hd9 := hK.dis
  have hxE : ¬ kBase D ≤ D.2.2.2 2 := hK.tE.out
  obtain ⟨z1, hz1⟩ : ∃ z, z = (xs (3 * j + 1)).toInt := ⟨_, rfl⟩
  obtain ⟨z2, hz2⟩ : ∃ z, z = (xs (3 * j + 2)).toInt := ⟨_, rfl⟩
  have hr1 : -2147483648 ≤ z1 ∧ z1 ≤ 2147483647 := by rw [hz1]; exact i32r _
  have hr2 : -2147483648 ≤ z2 ∧ z2 ≤ 2147483647 := by rw [hz2]; exact i32r _
  obtain ⟨⟨st, la, ea, F⟩, sl, hl2, hi, es, bu, vb, hO_x1, hDq, hTx, hX5, hev, hAl, hDj, hPw, hsl, hsn, hhs⟩ := id hW
  subst hsn
  subst hhs
  obtain ⟨ra, sa, ka, ta, nh, ik, th, sp9, iw, le9, fi9, se9, g, gs, gk, gt, hO_mm, hA_ra, hA_sa, hA_ka, hA_ta, hMr, hMh, hMk, hMt, ht60, hMd, hMb, hMi⟩ := id hM
  have hMr : MRow g S gap := hMr
  have h0 := hAl _ List.mem_cons_self
  have hP_kState_st : kState D H st la ea gap S F := h0.1
  have hok : LsOK S gap := h0.2.1
  have hG : StG S := h0.2.2.1
  have hL8 : S.length ≤ 8 := hok.1
  have hgp := hok.2.1
  have hO_x1 : kO D H x1 0 [.ref st, va_rf ((sl.map (fun a => a.1.1)).head?), .ref hi, .ref bu] := hO_x1
  have hOw : ∀ q, kOwn D st la ea F S.length q → q ∉ [x1, hi, es, bu, vb] ∧ (q < c0 ∨ c1 ≤ q) := h0.2.2.2
  have hev : Hd (es ≠ vb) := hev
  have io_x1 : ∀ x, c0 ≤ x → x < c1 → x ≠ x1 := fun x => out_of (hX5 x1 (by simp)).2
  have io_hi : ∀ x, c0 ≤ x → x < c1 → x ≠ hi := fun x => out_of (hX5 hi (by simp)).2
  have io_es : ∀ x, c0 ≤ x → x < c1 → x ≠ es := fun x => out_of (hX5 es (by simp)).2
  have io_bu : ∀ x, c0 ≤ x → x < c1 → x ≠ bu := fun x => out_of (hX5 bu (by simp)).2
  have io_vb : ∀ x, c0 ≤ x → x < c1 → x ≠ vb := fun x => out_of (hX5 vb (by simp)).2
  have b_x1 := (hX5 x1 (by simp)).1
  have b_hi := (hX5 hi (by simp)).1
  have b_es := (hX5 es (by simp)).1
  have b_bu := (hX5 bu (by simp)).1
  have b_vb := (hX5 vb (by simp)).1
  obtain ⟨⟨⟨n1, n2, n3, n4⟩, n5, n6, n7⟩, n8, n9, n10⟩ := hMd
  have n_mm_ra : Hd (mm ≠ ra) := n1
  have n_mm_sa : Hd (mm ≠ sa) := n2
  have n_mm_ka : Hd (mm ≠ ka) := n3
  have n_mm_ta : Hd (mm ≠ ta) := n4
  have n_ra_sa : Hd (ra ≠ sa) := n5
  have n_ra_ka : Hd (ra ≠ ka) := n6
  have n_ra_ta : Hd (ra ≠ ta) := n7
  have n_sa_ka : Hd (sa ≠ ka) := n8
  have n_sa_ta : Hd (sa ≠ ta) := n9
  have n_ka_ta : Hd (ka ≠ ta) := n10
  have hMd : Hd (((mm ≠ ra ∧ mm ≠ sa ∧ mm ≠ ka ∧ mm ≠ ta) ∧ ra ≠ sa ∧ ra ≠ ka ∧ ra ≠ ta) ∧ sa ≠ ka ∧ sa ≠ ta ∧ ka ≠ ta) := ⟨⟨⟨n1, n2, n3, n4⟩, n5, n6, n7⟩, n8, n9, n10⟩
  clear n1 n2 n3 n4 n5 n6 n7 n8 n9 n10
  obtain ⟨b_mm, b_ra, b_sa, b_ka, b_ta⟩ := id hMb
  obtain ⟨i_mm, i_ra, i_sa, i_ka, i_ta⟩ := id hMi
  have b_out : kBase D ≤ out := by omega
  have hcc : c0 ≤ c1 := by omega
  have w_mm : mm < c1 := by omega
  have n_mm_out : Hd (mm ≠ out) := Nat.ne_of_lt i_mm.2
  have n_mm_outD : Hd (mm ≠ outD) := Nat.ne_of_lt (Nat.lt_trans i_mm.2 hod)
  have w_ra : ra < c1 := by omega
  have n_ra_out : Hd (ra ≠ out) := Nat.ne_of_lt i_ra.2
  have n_ra_outD : Hd (ra ≠ outD) := Nat.ne_of_lt (Nat.lt_trans i_ra.2 hod)
  have w_sa : sa < c1 := by omega
  have n_sa_out : Hd (sa ≠ out) := Nat.ne_of_lt i_sa.2
  have n_sa_outD : Hd (sa ≠ outD) := Nat.ne_of_lt (Nat.lt_trans i_sa.2 hod)
  have w_ka : ka < c1 := by omega
  have n_ka_out : Hd (ka ≠ out) := Nat.ne_of_lt i_ka.2
  have n_ka_outD : Hd (ka ≠ outD) := Nat.ne_of_lt (Nat.lt_trans i_ka.2 hod)
  have w_ta : ta < c1 := by omega
  have n_ta_out : Hd (ta ≠ out) := Nat.ne_of_lt i_ta.2
  have n_ta_outD : Hd (ta ≠ outD) := Nat.ne_of_lt (Nat.lt_trans i_ta.2 hod)
  have ge_mm : ∀ q, q = mm → kNW s.heap q := fun q h => by rw [h]; show s.heap.size ≤ mm; omega
  have ge_ra : ∀ q, q = ra → kNW s.heap q := fun q h => by rw [h]; show s.heap.size ≤ ra; omega
  have ge_sa : ∀ q, q = sa → kNW s.heap q := fun q h => by rw [h]; show s.heap.size ≤ sa; omega
  have ge_ka : ∀ q, q = ka → kNW s.heap q := fun q h => by rw [h]; show s.heap.size ≤ ka; omega
  have ge_ta : ∀ q, q = ta → kNW s.heap q := fun q h => by rw [h]; show s.heap.size ≤ ta; omega
  have ge_out : ∀ q, q = out → kNW s.heap q := fun q h => by rw [h]; show s.heap.size ≤ out; omega
  have n_out_outD : Hd (out ≠ outD) := Nat.ne_of_lt hod
  have w_out : out < c1 := by omega
  have w_outD : outD < c1 := hdc
  have i_outD : c0 ≤ outD := by omega
  have htyo : kTy D H out := Or.inr ⟨2, _, by decide, hA_out⟩
  have htyd : kTy D H outD := Or.inr ⟨3, _, by decide, hA_outD⟩
  have to_out : ∀ x, x = out → H.size ≤ x ∨ (kTy D H x ∧ c0 ≤ x ∧ x < c1) := fun x h => by rw [h]; exact Or.inr ⟨htyo, hco, w_out⟩
  have to_outD : ∀ x, x = outD → H.size ≤ x ∨ (kTy D H x ∧ c0 ≤ x ∧ x < c1) := fun x h => by rw [h]; exact Or.inr ⟨htyd, i_outD, w_outD⟩
  obtain ⟨⟨hO_st, mc9, hO_la⟩, hLs9, hLn9, hF9, hDs9, hb1, hb2, hb3⟩ := id hP_kState_st
  have hnx : ∀ q, kOwn D st la ea F S.length q → q ≠ hi ∧ q ≠ es ∧ q ≠ x1 := fun q hq => by
    have h9 := (hOw q hq).1
    simp only [List.mem_cons, List.not_mem_nil, or_false, not_or] at h9
    exact ⟨h9.2.1, h9.2.2.1, h9.1⟩
  have hnO9 : ∀ q, kOwn D st la ea F S.length q → q ≠ out := fun q hq => (out_of (hOw q hq).2 hco w_out).symm
  have nex : Hd (x1 ≠ hi ∧ x1 ≠ es) := by
    obtain ⟨_, _, _, y1, y2, _⟩ := hDq
    exact ⟨(kO_ne hd9 y1 hO_x1 (by decide) (by decide) (by decide)).symm, kOA_ne hd9 hO_x1 y2 (by decide) (by decide)⟩
  have neo : Hd (hi ≠ out ∧ es ≠ out ∧ x1 ≠ out) := ⟨(io_hi out hco w_out).symm, (io_es out hco w_out).symm, (io_x1 out hco w_out).symm⟩
  by_cases hA : 0 ≤ z1 ∧ z1 < (S.length : Int)
  · -- hA
    obtain ⟨ln9, hv1⟩ : ∃ k : Nat, z1 = (k : Int) := ⟨z1.toNat, by omega⟩
    have hln : ln9 < S.length := by omega
    have hLn := hok.ln hln
    by_cases hA3 : st_best S gap ln9 = -1
    · -- hA3
      refine lv_aload_n hx hb dL_law_627 rfl (lv_at hl 1 rfl) ?_
      refine lv_aload_n hx hb dL_law_628 rfl (lv_at hl 0 rfl) ?_
      refine lv_iload hx hb dL_law_629 (lv_at hl 5 rfl) ?_
      refine kx_iconst hx hb dL_law_631 ?_
      refine kx_iadd hx hb dL_law_632 ?_
      refine kx_sld (i := (((3 * j : Nat) : Int) + 1)) hx hb hX hbl hbA hS (3 * j + 1) (by omega) (by omega) (by omega) dL_law_633 ?_
      refine kx_eqi (((ln9 : Nat) : Int)) (hz1.symm.trans hv1) ?_
      refine lv_aload_n hx hb dL_law_634 rfl (lv_at hl 3 rfl) ?_
      refine kx_ci (vx_runSW (As := [.ref x1, .int (kI ((ln9 : Nat) : Int)), .ref out]) (rest := []) ⟨hx, hb, hml, hown, hts⟩ (wx_labelBest_2 l hl9 D H x1 ((sl.map (fun a => a.1.1)).head?) hi bu st la mc9 ea F S gap ln9 out hO_x1 hO_st hO_la hLs9 hLn9 (by first | assumption | omega) (by first | assumption | omega) (by first | assumption | omega)) (vx_cwSW 3 hts (lw_SW q1915 q1916 q78 q1917) rfl rfl rfl (by decide +kernel) ⟨Nat.le_of_ble_eq_true rfl, Nat.le_of_ble_eq_true rfl⟩) (kx_ps hK hS hB) rfl rfl hl.1 rfl (lv_room (Nat.le_of_ble_eq_true rfl)) dL_law_635 ⟨by first | exact Nat.le_of_ble_eq_true rfl | omega | (dsimp only [lwR]; omega) | (show _ ≤ _; omega), by first | exact Nat.le_of_ble_eq_true rfl | omega | (dsimp only [lwR]; omega) | (show _ ≤ _; omega)⟩) hS (fun q _ h => by have h9 := hS.1; (try dsimp only at h); (try dsimp only); (try simp only [kNW] at h); (try simp only [kNW]); omega) (fun q h => by have h9 := hS.1; (try dsimp only at h); (try dsimp only); (try simp only [kNW] at h); (try simp only [kNW]); omega) (fun z_6 H_4 locs_1 hz_3 hF_5 hS_2 => ?_)
      have hzf_7 := hF_5.1
      have hF_5 := hF_5.nw
      obtain ⟨hv_8, hnw_9⟩ := hz_3
      subst z_6
      refine lv_istore (lv' := [(6, .int (kI (2))), (0, .ref b), (1, .ref x1), (2, .ref mm), (3, .ref out), (4, .ref outD), (5, .int (kI ((3 * j : Nat) : Int)))]) hx hb dL_law_638 hl (by decide) rfl (fun ls hl => ?_)
      refine lv_aload_n hx hb dL_law_640 rfl (lv_at hl 3 rfl) ?_
      refine lv_aload_n hx hb dL_law_641 rfl (lv_at hl 1 rfl) ?_
      refine lv_iload hx hb dL_law_642 (lv_at hl 6 rfl) ?_
      refine kx_iconst hx hb dL_law_644 ?_
      refine kx_iadd hx hb dL_law_645 ?_
      refine kx_sld (i := (((3 * j : Nat) : Int) + 1)) hx hb hX hbl hbA hS_2 (3 * j + 1) (by omega) (by omega) (by omega) dL_law_646 ?_
      refine kx_eqi (((ln9 : Nat) : Int)) (hz1.symm.trans hv1) ?_
      have h_10 := hO_mm.ex hF_5
      have h_11 := hA_ra.ex hF_5
      have h_12 := hA_sa.ex hF_5
      have h_13 := hA_ka.ex hF_5
      have h_14 := hA_ta.ex hF_5
      have ty_mm : ∀ x, x = mm → H_4.size ≤ x ∨ (kTy D H_4 x ∧ c0 ≤ x ∧ x < c1) := fun x h => by rw [h]; exact Or.inr ⟨Or.inl ⟨2, _, by decide, by decide, by decide, h_10⟩, i_mm.1, w_mm⟩
      refine kx_ci (va_runV (As := [.int (kI ((ln9 : Nat) : Int))]) (rest := []) ⟨hx, hb, hml, hown, hts⟩ (m_X3_labelBest_no l D H_4 mm ra sa ka ta nh ik t.length th sp9 iw le9 fi9 se9 g gs S gap ((hl2.map Prod.snd)) (((ln9 : Nat) : Int)) h_10 h_11 h_12 (by first | assumption | omega) (by first | assumption | omega) (by first | assumption | omega) n_mm_ra n_mm_sa n_ra_sa b_mm b_ra b_sa (by first | assumption | omega) (by rw [rbe2 hln hA3]; decide) (by rw [rbe2 hln hA3]; decide)) (cwV 1 hts (lw_V q2431 q2432 q2433 q89 q2434) rfl rfl rfl (by decide +kernel) ⟨Nat.le_of_ble_eq_true rfl, Nat.le_of_ble_eq_true rfl⟩) (kx_pv hK hS_2 hB (kx_rc hK h_10 (C := RX3) (T := TX3) (N := 13) rfl)) rfl rfl hl.1 rfl (lv_room (Nat.le_of_ble_eq_true rfl)) dL_law_647 ⟨by first | exact Nat.le_of_ble_eq_true rfl | omega | (dsimp only [lwR]; omega) | (show _ ≤ _; omega), by first | exact Nat.le_of_ble_eq_true rfl | omega | (dsimp only [lwR]; omega) | (show _ ≤ _; omega)⟩) hS_2 (fun q _ h => (ge_mm q) h) (fun q h => (ge_mm q) h) (fun z_20 H_18 locs_15 hz_17 hF_19 hS_16 => ?_)
      have hzf_21 := hF_19.1
      obtain ⟨hv_22, ho_23⟩ := hz_17
      subst z_20
      refine lv_istore (lv' := [(7, .int (kI (0))), (6, .int (kI (2))), (0, .ref b), (1, .ref x1), (2, .ref mm), (3, .ref out), (4, .ref outD), (5, .int (kI ((3 * j : Nat) : Int)))]) hx hb dL_law_650 hl (by decide) rfl (fun ls hl => ?_)
      refine lv_aload_n hx hb dL_law_652 rfl (lv_at hl 4 rfl) ?_
      refine kx_ci0 (va_runV (As := []) (rest := []) ⟨hx, hb, hml, hown, hts⟩ (m_X3_thrown l D H_18 mm ra sa ka ta nh ik t.length (ref_best S gap ((((ln9 : Nat) : Int)))) sp9 iw le9 fi9 se9 ho_23 ) (cwV 0 hts (lw_V q2278 q2279 q2280 q89 q2281) rfl rfl rfl (by decide +kernel) ⟨Nat.le_of_ble_eq_true rfl, Nat.le_of_ble_eq_true rfl⟩) (kx_pv hK hS_16 hB (kx_rc hK ho_23 (C := RX3) (T := TX3) (N := 13) rfl)) rfl rfl hl.1 rfl (lv_room (Nat.le_of_ble_eq_true rfl)) dL_law_653 ⟨by first | exact Nat.le_of_ble_eq_true rfl | omega | (dsimp only [lwR]; omega) | (show _ ≤ _; omega), by first | exact Nat.le_of_ble_eq_true rfl | omega | (dsimp only [lwR]; omega) | (show _ ≤ _; omega)⟩) hS_16 (fun z_27 locs_24 hz_26 hS_25 => ?_)
      subst z_27
      refine kx_eqi (2) (rbe2 hln hA3) ?_
      refine lv_iload hx hb dL_law_656 (lv_at hl 1 rfl) ?_
      refine kx_icmp_eq (x := 2) (y := 2) (tgt := 663) hx hb dL_law_658 (by decide) (by omega) (by omega) (by omega) (by omega) (fun c_658_28 => ?_) (fun c_658_28 => ?_)
      · -- taken at 658
        refine lv_iload hx hb dL_law_663 (lv_at hl 1 rfl) ?_
        refine kx_if_ne (x := 2) (tgt := 680) hx hb dL_law_665 (by decide) (by omega) (by omega) (fun c_665_29 => ?_) (fun c_665_29 => ?_)
        · -- taken at 665
          refine lv_goto (tgt := 2493) hx hb dL_law_680 (by decide) ?_
          have h_30 := h_11.fr hF_19 (n_mm_ra.sm)
          have h_31 := h_12.fr hF_19 (n_mm_sa.sm)
          have h_32 := h_13.fr hF_19 (n_mm_ka.sm)
          have h_33 := h_14.fr hF_19 (n_mm_ta.sm)
          have h_34 := hA_out.ex hF_5
          have h_35 := h_34.fr hF_19 (n_mm_out.sm)
          have h_36 := hA_outD.ex hF_5
          have h_37 := h_36.fr hF_19 (n_mm_outD.sm)
          have h_38 := hW.ex hd9 hF_5
          have h_39 := h_38.fr hd9 hF_19 (fun x => (ty_mm x))
          refine W.widen (k := cells + 50000) (n := slots + 228000) (by omega) (by omega) ?_
          have hM9 : kM D H_18 c0 out mm (S, gap) ((sl.map Prod.snd).head?) (hl2.map Prod.snd) t := ⟨ra, sa, ka, ta, _, _, _, _, _, _, _, _, _, _, _, _, ho_23, h_30, h_31, h_32, h_33, hMr, hMh, hMk, hMt, ht60, hMd, hMb, hMi⟩
          exact kk (S, gap) ((sl.map Prod.snd).head?) (hl2.map Prod.snd) t _ _ _ ⟨hS_25, lv_sub hl [2, 3, 4, 5, 6, 7] rfl, h_39, hM9, ⟨_, h_35⟩, ⟨_, h_37⟩, by omega, by omega⟩
        · -- not taken at 665
          exfalso; omega
      · -- not taken at 658
        exfalso; omega
    · -- hA3
      have hr9 := best_rng hok hln
      have hrv : -2147483648 ≤ st_best S gap ln9 ∧ st_best S gap ln9 ≤ 2147483647 := ⟨by omega, by omega⟩
      refine lv_aload_n hx hb dL_law_627 rfl (lv_at hl 1 rfl) ?_
      refine lv_aload_n hx hb dL_law_628 rfl (lv_at hl 0 rfl) ?_
      refine lv_iload hx hb dL_law_629 (lv_at hl 5 rfl) ?_
      refine kx_iconst hx hb dL_law_631 ?_
      refine kx_iadd hx hb dL_law_632 ?_
      refine kx_sld (i := (((3 * j : Nat) : Int) + 1)) hx hb hX hbl hbA hS (3 * j + 1) (by omega) (by omega) (by omega) dL_law_633 ?_
      refine kx_eqi (((ln9 : Nat) : Int)) (hz1.symm.trans hv1) ?_
      refine lv_aload_n hx hb dL_law_634 rfl (lv_at hl 3 rfl) ?_
      refine kx_ci (vx_runSW (As := [.ref x1, .int (kI ((ln9 : Nat) : Int)), .ref out]) (rest := []) ⟨hx, hb, hml, hown, hts⟩ (wr_labelBest l hl9 D H x1 ((sl.map (fun a => a.1.1)).head?) hi bu es ((hl2.map (fun a => a.1.1))) st la ea F S gap ln9 out go hO_x1 hP_kState_st hDq hA_out (by first | assumption | omega) (by first | assumption | omega) (by first | assumption | omega) (by first | assumption | omega) nex (by first | assumption | omega) (by first | assumption | omega) (by first | assumption | omega) (by first | assumption | omega) neo (by first | assumption | omega)) (vx_cwSW 3 hts (lw_SW q1915 q1916 q78 q1917) rfl rfl rfl (by decide +kernel) ⟨Nat.le_of_ble_eq_true rfl, Nat.le_of_ble_eq_true rfl⟩) (kx_ps hK hS hB) rfl rfl hl.1 rfl (lv_room (Nat.le_of_ble_eq_true rfl)) dL_law_635 ⟨by first | exact Nat.le_of_ble_eq_true rfl | omega | (dsimp only [lwR]; omega) | (show _ ≤ _; omega), by first | exact Nat.le_of_ble_eq_true rfl | omega | (dsimp only [lwR]; omega) | (show _ ≤ _; omega)⟩) hS (fun q _ h => (fun h => Or.elim h (ge_out q) (fun h => Or.elim h (fun h => by have h8 := hP_kState_st.ownge h; show s.heap.size ≤ q; omega) (fun h => Or.elim h (fun h => by rw [h]; show s.heap.size ≤ hi; omega) (fun h => Or.elim h (fun h => by rw [h]; show s.heap.size ≤ es; omega) (fun h => Nat.le_trans hS.1 h))))) h) (fun q h => (fun h => Or.elim h (ge_out q) (fun h => Or.elim h (fun h => by have h8 := hP_kState_st.ownge h; show s.heap.size ≤ q; omega) (fun h => Or.elim h (fun h => by rw [h]; show s.heap.size ≤ hi; omega) (fun h => Or.elim h (fun h => by rw [h]; show s.heap.size ≤ es; omega) (fun h => Nat.le_trans hS.1 h))))) h) (fun z_45 H_43 locs_40 hz_42 hF_44 hS_41 => ?_)
      have hzf_46 := hF_44.1
      obtain ⟨crw, la2w, ea2w, F2w, ea3w, F3w, hv_53, ho_54, ho_55, ho_56, ho_57, ho_58, hw1, hw2, hw3⟩ := hz_42
      subst z_45
      have hW9 : kW D H_43 c0 c1 x1 (S.set ln9 (w_lb (st_ln S ln9) (st_best S gap ln9)), gap) ((sl.map Prod.snd).head?) (pushH (hl2.map Prod.snd) (S, gap)) t := kW.change (out := out) hd9 hxE hO_x1 hDq hTx hX5 hev hAl hDj hPw hsl hF_44 htyo ⟨hco, w_out⟩ hc1 ho_54 ho_55 ho_56 ho_57 hw1 hw2 hw3 (hok.bst hln) (hG.set hln rfl rfl)
      refine lv_istore (lv' := [(6, .int (kI (0))), (0, .ref b), (1, .ref x1), (2, .ref mm), (3, .ref out), (4, .ref outD), (5, .int (kI ((3 * j : Nat) : Int)))]) hx hb dL_law_638 hl (by decide) rfl (fun ls hl => ?_)
      refine lv_aload_n hx hb dL_law_640 rfl (lv_at hl 3 rfl) ?_
      refine lv_aload_n hx hb dL_law_641 rfl (lv_at hl 1 rfl) ?_
      refine lv_iload hx hb dL_law_642 (lv_at hl 6 rfl) ?_
      refine kx_iconst hx hb dL_law_644 ?_
      refine kx_iadd hx hb dL_law_645 ?_
      refine kx_sld (i := (((3 * j : Nat) : Int) + 1)) hx hb hX hbl hbA hS_41 (3 * j + 1) (by omega) (by omega) (by omega) dL_law_646 ?_
      refine kx_eqi (((ln9 : Nat) : Int)) (hz1.symm.trans hv1) ?_
      have h_59 := hO_mm.fr hF_44 (fun h => Or.elim h (n_mm_out) (fun h => Or.elim h (fun h => out_of (hOw _ h).2 i_mm.1 w_mm rfl) (fun h => Or.elim h (io_hi _ i_mm.1 w_mm) (fun h => Or.elim h (io_es _ i_mm.1 w_mm) (fun h => Nat.not_le_of_gt hO_mm.lt h)))))
      have h_60 := hA_ra.fr hF_44 (fun h => Or.elim h (n_ra_out) (fun h => Or.elim h (fun h => out_of (hOw _ h).2 i_ra.1 w_ra rfl) (fun h => Or.elim h (io_hi _ i_ra.1 w_ra) (fun h => Or.elim h (io_es _ i_ra.1 w_ra) (fun h => Nat.not_le_of_gt hA_ra.lt h)))))
      have h_61 := hA_sa.fr hF_44 (fun h => Or.elim h (n_sa_out) (fun h => Or.elim h (fun h => out_of (hOw _ h).2 i_sa.1 w_sa rfl) (fun h => Or.elim h (io_hi _ i_sa.1 w_sa) (fun h => Or.elim h (io_es _ i_sa.1 w_sa) (fun h => Nat.not_le_of_gt hA_sa.lt h)))))
      have h_62 := hA_ka.fr hF_44 (fun h => Or.elim h (n_ka_out) (fun h => Or.elim h (fun h => out_of (hOw _ h).2 i_ka.1 w_ka rfl) (fun h => Or.elim h (io_hi _ i_ka.1 w_ka) (fun h => Or.elim h (io_es _ i_ka.1 w_ka) (fun h => Nat.not_le_of_gt hA_ka.lt h)))))
      have h_63 := hA_ta.fr hF_44 (fun h => Or.elim h (n_ta_out) (fun h => Or.elim h (fun h => out_of (hOw _ h).2 i_ta.1 w_ta rfl) (fun h => Or.elim h (io_hi _ i_ta.1 w_ta) (fun h => Or.elim h (io_es _ i_ta.1 w_ta) (fun h => Nat.not_le_of_gt hA_ta.lt h)))))
      have ty_mm : ∀ x, x = mm → H_43.size ≤ x ∨ (kTy D H_43 x ∧ c0 ≤ x ∧ x < c1) := fun x h => by rw [h]; exact Or.inr ⟨Or.inl ⟨2, _, by decide, by decide, by decide, h_59⟩, i_mm.1, w_mm⟩
      have ty_ra : ∀ x, x = ra → H_43.size ≤ x ∨ (kTy D H_43 x ∧ c0 ≤ x ∧ x < c1) := fun x h => by rw [h]; exact Or.inr ⟨Or.inr ⟨0, _, by decide, h_60⟩, i_ra.1, w_ra⟩
      have ty_sa : ∀ x, x = sa → H_43.size ≤ x ∨ (kTy D H_43 x ∧ c0 ≤ x ∧ x < c1) := fun x h => by rw [h]; exact Or.inr ⟨Or.inr ⟨0, _, by decide, h_61⟩, i_sa.1, w_sa⟩
      refine kx_ci (va_runV (As := [.int (kI ((ln9 : Nat) : Int))]) (rest := []) ⟨hx, hb, hml, hown, hts⟩ (m_X3_labelBest l D H_43 mm ra sa ka ta nh ik t.length th sp9 iw le9 fi9 se9 g gs S gap ((hl2.map Prod.snd)) ln9 h_59 h_60 h_61 (by first | assumption | omega) (by first | assumption | omega) (by first | assumption | omega) n_mm_ra n_mm_sa n_ra_sa b_mm b_ra b_sa (by first | assumption | omega) (rbe0 hln hA3)) (cwV 1 hts (lw_V q2431 q2432 q2433 q89 q2434) rfl rfl rfl (by decide +kernel) ⟨Nat.le_of_ble_eq_true rfl, Nat.le_of_ble_eq_true rfl⟩) (kx_pv hK hS_41 hB (kx_rc hK h_59 (C := RX3) (T := TX3) (N := 13) rfl)) rfl rfl hl.1 rfl (lv_room (Nat.le_of_ble_eq_true rfl)) dL_law_647 ⟨by first | exact Nat.le_of_ble_eq_true rfl | omega | (dsimp only [lwR]; omega) | (show _ ≤ _; omega), by first | exact Nat.le_of_ble_eq_true rfl | omega | (dsimp only [lwR]; omega) | (show _ ≤ _; omega)⟩) hS_41 (fun q _ h => (fun h => Or.elim h (ge_mm q) (fun h => Or.elim h (ge_ra q) (ge_sa q))) h) (fun q h => (fun h => Or.elim h (ge_mm q) (fun h => Or.elim h (ge_ra q) (ge_sa q))) h) (fun z_69 H_67 locs_64 hz_66 hF_68 hS_65 => ?_)
      have hzf_70 := hF_68.1
      obtain ⟨g2_71, gs2_72, sn2_73, hv_74, ho_75, ho_76, ho_77, hM29, hH29⟩ := hz_66
      subst z_69
      refine lv_istore (lv' := [(7, .int (kI (st_best S gap ln9))), (6, .int (kI (0))), (0, .ref b), (1, .ref x1), (2, .ref mm), (3, .ref out), (4, .ref outD), (5, .int (kI ((3 * j : Nat) : Int)))]) hx hb dL_law_650 hl (by decide) rfl (fun ls hl => ?_)
      refine lv_aload_n hx hb dL_law_652 rfl (lv_at hl 4 rfl) ?_
      refine kx_ci0 (va_runV (As := []) (rest := []) ⟨hx, hb, hml, hown, hts⟩ (m_X3_thrown l D H_67 mm ra sa ka ta sn2_73 ik t.length 0 sp9 iw le9 fi9 se9 ho_75 ) (cwV 0 hts (lw_V q2278 q2279 q2280 q89 q2281) rfl rfl rfl (by decide +kernel) ⟨Nat.le_of_ble_eq_true rfl, Nat.le_of_ble_eq_true rfl⟩) (kx_pv hK hS_65 hB (kx_rc hK ho_75 (C := RX3) (T := TX3) (N := 13) rfl)) rfl rfl hl.1 rfl (lv_room (Nat.le_of_ble_eq_true rfl)) dL_law_653 ⟨by first | exact Nat.le_of_ble_eq_true rfl | omega | (dsimp only [lwR]; omega) | (show _ ≤ _; omega), by first | exact Nat.le_of_ble_eq_true rfl | omega | (dsimp only [lwR]; omega) | (show _ ≤ _; omega)⟩) hS_65 (fun z_81 locs_78 hz_80 hS_79 => ?_)
      subst z_81
      refine lv_iload hx hb dL_law_656 (lv_at hl 1 rfl) ?_
      refine kx_icmp_eq (x := 0) (y := 0) (tgt := 663) hx hb dL_law_658 (by decide) (by omega) (by omega) (by omega) (by omega) (fun c_658_82 => ?_) (fun c_658_82 => ?_)
      · -- taken at 658
        refine lv_iload hx hb dL_law_663 (lv_at hl 1 rfl) ?_
        refine kx_if_ne (x := 0) (tgt := 680) hx hb dL_law_665 (by decide) (by omega) (by omega) (fun c_665_83 => ?_) (fun c_665_83 => ?_)
        · -- taken at 665
          exfalso; omega
        · -- not taken at 665
          refine lv_aload_n hx hb dL_law_668 rfl (lv_at hl 5 rfl) ?_
          refine kx_iconst hx hb dL_law_669 ?_
          have h_84 := ho_58.fr hF_68 (fun h => Or.elim h (n_mm_out.sm) (fun h => Or.elim h (n_ra_out.sm) (n_sa_out.sm)))
          refine kx_lald (i := 0) hx hb hK h_84 0 rfl (by decide) (by decide) dL_law_670 ?_
          refine lv_iload hx hb dL_law_671 (lv_at hl 0 rfl) ?_
          refine kx_i2l hx hb (z := st_best S gap ln9) (by omega) (by omega) dL_law_673 ?_
          refine kx_lcmpE hx hb (x := ((kup go 0 (kL (st_best S gap ln9)))) 0) (y := kL (st_best S gap ln9)) (kup_self _ _ _) dL_law_674 ?_
          refine kx_if_eq (x := 0) (tgt := 680) hx hb dL_law_675 (by decide) (by omega) (by omega) (fun c_675_85 => ?_) (fun c_675_85 => ?_)
          · -- taken at 675
            refine lv_goto (tgt := 2493) hx hb dL_law_680 (by decide) ?_
            have h_86 := h_62.fr hF_68 (fun h => Or.elim h (n_mm_ka.sm) (fun h => Or.elim h (n_ra_ka.sm) (n_sa_ka.sm)))
            have h_87 := h_63.fr hF_68 (fun h => Or.elim h (n_mm_ta.sm) (fun h => Or.elim h (n_ra_ta.sm) (n_sa_ta.sm)))
            have h_88 := hA_outD.fr hF_44 (fun h => Or.elim h (n_out_outD.sm) (fun h => Or.elim h (fun h => out_of (hOw _ h).2 i_outD w_outD rfl) (fun h => Or.elim h (io_hi _ i_outD w_outD) (fun h => Or.elim h (io_es _ i_outD w_outD) (fun h => Nat.not_le_of_gt hA_outD.lt h)))))
            have h_89 := h_88.fr hF_68 (fun h => Or.elim h (n_mm_outD.sm) (fun h => Or.elim h (n_ra_outD.sm) (n_sa_outD.sm)))
            have h_90 := hW9.fr hd9 hF_68 (fun x => (fun h => Or.elim h (ty_mm x) (fun h => Or.elim h (ty_ra x) (ty_sa x))))
            refine W.widen (k := cells + 50000) (n := slots + 228000) (by omega) (by omega) ?_
            have hM9 : kM D H_67 c0 out mm (S.set ln9 (w_lb (st_ln S ln9) (st_best S gap ln9)), gap) ((sl.map Prod.snd).head?) (pushH (hl2.map Prod.snd) (S, gap)) t := ⟨ra, sa, ka, ta, _, _, _, _, _, _, _, _, _, _, _, _, ho_75, ho_76, ho_77, h_86, h_87, hM29, hH29, hMk, hMt, ht60, hMd, hMb, hMi⟩
            exact kk (S.set ln9 (w_lb (st_ln S ln9) (st_best S gap ln9)), gap) ((sl.map Prod.snd).head?) (pushH (hl2.map Prod.snd) (S, gap)) t _ _ _ ⟨hS_79, lv_sub hl [2, 3, 4, 5, 6, 7] rfl, h_90, hM9, ⟨_, h_84⟩, ⟨_, h_89⟩, by omega, by omega⟩
          · -- not taken at 675
            exfalso; omega
      · -- not taken at 658
        exfalso; omega
  · -- hA
    refine lv_aload_n hx hb dL_law_627 rfl (lv_at hl 1 rfl) ?_
    refine lv_aload_n hx hb dL_law_628 rfl (lv_at hl 0 rfl) ?_
    refine lv_iload hx hb dL_law_629 (lv_at hl 5 rfl) ?_
    refine kx_iconst hx hb dL_law_631 ?_
    refine kx_iadd hx hb dL_law_632 ?_
    refine kx_sld (i := (((3 * j : Nat) : Int) + 1)) hx hb hX hbl hbA hS (3 * j + 1) (by omega) (by omega) (by omega) dL_law_633 ?_
    refine kx_eqi (z1) (hz1.symm) ?_
    refine lv_aload_n hx hb dL_law_634 rfl (lv_at hl 3 rfl) ?_
    refine kx_ci (vx_runSW (As := [.ref x1, .int (kI (z1)), .ref out]) (rest := []) ⟨hx, hb, hml, hown, hts⟩ (wx_labelBest l hl9 D H x1 ((sl.map (fun a => a.1.1)).head?) hi bu st la mc9 ea F S gap z1 out hO_x1 hO_st hO_la hLs9 hLn9 (by first | assumption | omega) (by first | assumption | omega) (by first | assumption | omega)) (vx_cwSW 3 hts (lw_SW q1915 q1916 q78 q1917) rfl rfl rfl (by decide +kernel) ⟨Nat.le_of_ble_eq_true rfl, Nat.le_of_ble_eq_true rfl⟩) (kx_ps hK hS hB) rfl rfl hl.1 rfl (lv_room (Nat.le_of_ble_eq_true rfl)) dL_law_635 ⟨by first | exact Nat.le_of_ble_eq_true rfl | omega | (dsimp only [lwR]; omega) | (show _ ≤ _; omega), by first | exact Nat.le_of_ble_eq_true rfl | omega | (dsimp only [lwR]; omega) | (show _ ≤ _; omega)⟩) hS (fun q _ h => by have h9 := hS.1; (try dsimp only at h); (try dsimp only); (try simp only [kNW] at h); (try simp only [kNW]); omega) (fun q h => by have h9 := hS.1; (try dsimp only at h); (try dsimp only); (try simp only [kNW] at h); (try simp only [kNW]); omega) (fun z_96 H_94 locs_91 hz_93 hF_95 hS_92 => ?_)
    have hzf_97 := hF_95.1
    have hF_95 := hF_95.nw
    obtain ⟨hv_98, hnw_99⟩ := hz_93
    subst z_96
    refine lv_istore (lv' := [(6, .int (kI (1))), (0, .ref b), (1, .ref x1), (2, .ref mm), (3, .ref out), (4, .ref outD), (5, .int (kI ((3 * j : Nat) : Int)))]) hx hb dL_law_638 hl (by decide) rfl (fun ls hl => ?_)
    refine lv_aload_n hx hb dL_law_640 rfl (lv_at hl 3 rfl) ?_
    refine lv_aload_n hx hb dL_law_641 rfl (lv_at hl 1 rfl) ?_
    refine lv_iload hx hb dL_law_642 (lv_at hl 6 rfl) ?_
    refine kx_iconst hx hb dL_law_644 ?_
    refine kx_iadd hx hb dL_law_645 ?_
    refine kx_sld (i := (((3 * j : Nat) : Int) + 1)) hx hb hX hbl hbA hS_92 (3 * j + 1) (by omega) (by omega) (by omega) dL_law_646 ?_
    refine kx_eqi (z1) (hz1.symm) ?_
    have h_100 := hO_mm.ex hF_95
    have h_101 := hA_ra.ex hF_95
    have h_102 := hA_sa.ex hF_95
    have h_103 := hA_ka.ex hF_95
    have h_104 := hA_ta.ex hF_95
    have ty_mm : ∀ x, x = mm → H_94.size ≤ x ∨ (kTy D H_94 x ∧ c0 ≤ x ∧ x < c1) := fun x h => by rw [h]; exact Or.inr ⟨Or.inl ⟨2, _, by decide, by decide, by decide, h_100⟩, i_mm.1, w_mm⟩
    refine kx_ci (va_runV (As := [.int (kI (z1))]) (rest := []) ⟨hx, hb, hml, hown, hts⟩ (m_X3_labelBest_no l D H_94 mm ra sa ka ta nh ik t.length th sp9 iw le9 fi9 se9 g gs S gap ((hl2.map Prod.snd)) z1 h_100 h_101 h_102 (by first | assumption | omega) (by first | assumption | omega) (by first | assumption | omega) n_mm_ra n_mm_sa n_ra_sa b_mm b_ra b_sa (by first | assumption | omega) (by rw [rbe1 hA]; decide) (by rw [rbe1 hA]; decide)) (cwV 1 hts (lw_V q2431 q2432 q2433 q89 q2434) rfl rfl rfl (by decide +kernel) ⟨Nat.le_of_ble_eq_true rfl, Nat.le_of_ble_eq_true rfl⟩) (kx_pv hK hS_92 hB (kx_rc hK h_100 (C := RX3) (T := TX3) (N := 13) rfl)) rfl rfl hl.1 rfl (lv_room (Nat.le_of_ble_eq_true rfl)) dL_law_647 ⟨by first | exact Nat.le_of_ble_eq_true rfl | omega | (dsimp only [lwR]; omega) | (show _ ≤ _; omega), by first | exact Nat.le_of_ble_eq_true rfl | omega | (dsimp only [lwR]; omega) | (show _ ≤ _; omega)⟩) hS_92 (fun q _ h => (ge_mm q) h) (fun q h => (ge_mm q) h) (fun z_110 H_108 locs_105 hz_107 hF_109 hS_106 => ?_)
    have hzf_111 := hF_109.1
    obtain ⟨hv_112, ho_113⟩ := hz_107
    subst z_110
    refine lv_istore (lv' := [(7, .int (kI (0))), (6, .int (kI (1))), (0, .ref b), (1, .ref x1), (2, .ref mm), (3, .ref out), (4, .ref outD), (5, .int (kI ((3 * j : Nat) : Int)))]) hx hb dL_law_650 hl (by decide) rfl (fun ls hl => ?_)
    refine lv_aload_n hx hb dL_law_652 rfl (lv_at hl 4 rfl) ?_
    refine kx_ci0 (va_runV (As := []) (rest := []) ⟨hx, hb, hml, hown, hts⟩ (m_X3_thrown l D H_108 mm ra sa ka ta nh ik t.length (ref_best S gap z1) sp9 iw le9 fi9 se9 ho_113 ) (cwV 0 hts (lw_V q2278 q2279 q2280 q89 q2281) rfl rfl rfl (by decide +kernel) ⟨Nat.le_of_ble_eq_true rfl, Nat.le_of_ble_eq_true rfl⟩) (kx_pv hK hS_106 hB (kx_rc hK ho_113 (C := RX3) (T := TX3) (N := 13) rfl)) rfl rfl hl.1 rfl (lv_room (Nat.le_of_ble_eq_true rfl)) dL_law_653 ⟨by first | exact Nat.le_of_ble_eq_true rfl | omega | (dsimp only [lwR]; omega) | (show _ ≤ _; omega), by first | exact Nat.le_of_ble_eq_true rfl | omega | (dsimp only [lwR]; omega) | (show _ ≤ _; omega)⟩) hS_106 (fun z_117 locs_114 hz_116 hS_115 => ?_)
    subst z_117
    refine kx_eqi (1) (rbe1 hA) ?_
    refine lv_iload hx hb dL_law_656 (lv_at hl 1 rfl) ?_
    refine kx_icmp_eq (x := 1) (y := 1) (tgt := 663) hx hb dL_law_658 (by decide) (by omega) (by omega) (by omega) (by omega) (fun c_658_118 => ?_) (fun c_658_118 => ?_)
    · -- taken at 658
      refine lv_iload hx hb dL_law_663 (lv_at hl 1 rfl) ?_
      refine kx_if_ne (x := 1) (tgt := 680) hx hb dL_law_665 (by decide) (by omega) (by omega) (fun c_665_119 => ?_) (fun c_665_119 => ?_)
      · -- taken at 665
        refine lv_goto (tgt := 2493) hx hb dL_law_680 (by decide) ?_
        have h_120 := h_101.fr hF_109 (n_mm_ra.sm)
        have h_121 := h_102.fr hF_109 (n_mm_sa.sm)
        have h_122 := h_103.fr hF_109 (n_mm_ka.sm)
        have h_123 := h_104.fr hF_109 (n_mm_ta.sm)
        have h_124 := hA_out.ex hF_95
        have h_125 := h_124.fr hF_109 (n_mm_out.sm)
        have h_126 := hA_outD.ex hF_95
        have h_127 := h_126.fr hF_109 (n_mm_outD.sm)
        have h_128 := hW.ex hd9 hF_95
        have h_129 := h_128.fr hd9 hF_109 (fun x => (ty_mm x))
        refine W.widen (k := cells + 50000) (n := slots + 228000) (by omega) (by omega) ?_
        have hM9 : kM D H_108 c0 out mm (S, gap) ((sl.map Prod.snd).head?) (hl2.map Prod.snd) t := ⟨ra, sa, ka, ta, _, _, _, _, _, _, _, _, _, _, _, _, ho_113, h_120, h_121, h_122, h_123, hMr, hMh, hMk, hMt, ht60, hMd, hMb, hMi⟩
        exact kk (S, gap) ((sl.map Prod.snd).head?) (hl2.map Prod.snd) t _ _ _ ⟨hS_115, lv_sub hl [2, 3, 4, 5, 6, 7] rfl, h_129, hM9, ⟨_, h_125⟩, ⟨_, h_127⟩, by omega, by omega⟩
      · -- not taken at 665
        exfalso; omega
    · -- not taken at 658
      exfalso; omega

set_option maxHeartbeats 8000000 in
set_option maxRecDepth 100000 in
theorem lc_setGap {p : Program} {e : Env} {s : State} {m : MethodId} {below : List Frame} {meth : Method} {c : Code} {l : Launch} {D : kG} {b L c0 c1 x1 mm out outD : Nat} {xs : Nat → Int32} {Q : State → Prop} (C0 : lwC D p l s m meth c b L c0 c1 out outD xs) {j : Nat} (hj : 3 * j + 3 ≤ L) {S : Ls} {gap : Int} {sn : Option Sg} {hs : List Sg} {t : List Int} {H : Heap} {locs : List Loc} {ls : Array Slot} (I0 : lwI D s b c0 c1 x1 mm out outD j j (S, gap) sn hs t H locs ls) {cells slots : Nat} (hcl : cells + 50000 ≤ 1200144) (hsl9 : slots + 228000 ≤ 5496058) (kk : ∀ (σ : Sg) (sn : Option Sg) (hs : List Sg) (t : List Int) (H : Heap) (locs : List Loc) (ls : Array Slot), lwI D s b c0 c1 x1 mm out outD j (j + 1) σ sn hs t H locs ls → W p l e lwR s m #[Value.ref b] below meth c H locs (cells + 50000) (slots + 228000) Q (F0 m 2493 ls [])) : W p l e lwR s m #[Value.ref b] below meth c H locs cells slots Q (F0 m 696 ls []) := by
  obtain ⟨hx, hb, hml, hown, hts, hlk, hK, hl9, hX, hbl, hbs, hL72, hc0, hco, hod, hdc⟩ := C0
  obtain ⟨hS, hl, hW, hM, ⟨go, hA_out⟩, ⟨gd, hA_outD⟩, hc1, htl⟩ := I0
  have hB : ∀ q, (kNW s.heap) q → kBase D ≤ q := fun q h => Nat.le_trans hK.size h
  have hbA : ¬ (kNW s.heap) b := fun h => by have h9 : s.heap.size ≤ b := h; omega
  have hd9 := hK.dis
  have hxE : ¬ kBase D ≤ D.2.2.2 2 := hK.tE.out
  obtain ⟨z1, hz1⟩ : ∃ z, z = (xs (3 * j + 1)).toInt := ⟨_, rfl⟩
  obtain ⟨z2, hz2⟩ : ∃ z, z = (xs (3 * j + 2)).toInt := ⟨_, rfl⟩
  have hr1 : -2147483648 ≤ z1 ∧ z1 ≤ 2147483647 := by rw [hz1]; exact i32r _
  have hr2 : -2147483648 ≤ z2 ∧ z2 ≤ 2147483647 := by rw [hz2]; exact i32r _
  obtain ⟨⟨st, la, ea, F⟩, sl, hl2, hi, es, bu, vb, hO_x1, hDq, hTx, hX5, hev, hAl, hDj, hPw, hsl, hsn, hhs⟩ := id hW
  subst hsn
  subst hhs
  obtain ⟨ra, sa, ka, ta, nh, ik, th, sp9, iw, le9, fi9, se9, g, gs, gk, gt, hO_mm, hA_ra, hA_sa, hA_ka, hA_ta, hMr, hMh, hMk, hMt, ht60, hMd, hMb, hMi⟩ := id hM
  have hMr : MRow g S gap := hMr
  have h0 := hAl _ List.mem_cons_self
  have hP_kState_st : kState D H st la ea gap S F := h0.1
  have hok : LsOK S gap := h0.2.1
  have hG : StG S := h0.2.2.1
  have hL8 : S.length ≤ 8 := hok.1
  have hgp := hok.2.1
  have hO_x1 : kO D H x1 0 [.ref st, va_rf ((sl.map (fun a => a.1.1)).head?), .ref hi, .ref bu] := hO_x1
  have hOw : ∀ q, kOwn D st la ea F S.length q → q ∉ [x1, hi, es, bu, vb] ∧ (q < c0 ∨ c1 ≤ q) := h0.2.2.2
  have hev : Hd (es ≠ vb) := hev
  have io_x1 : ∀ x, c0 ≤ x → x < c1 → x ≠ x1 := fun x => out_of (hX5 x1 (by simp)).2
  have io_hi : ∀ x, c0 ≤ x → x < c1 → x ≠ hi := fun x => out_of (hX5 hi (by simp)).2
  have io_es : ∀ x, c0 ≤ x → x < c1 → x ≠ es := fun x => out_of (hX5 es (by simp)).2
  have io_bu : ∀ x, c0 ≤ x → x < c1 → x ≠ bu := fun x => out_of (hX5 bu (by simp)).2
  have io_vb : ∀ x, c0 ≤ x → x < c1 → x ≠ vb := fun x => out_of (hX5 vb (by simp)).2
  have b_x1 := (hX5 x1 (by simp)).1
  have b_hi := (hX5 hi (by simp)).1
  have b_es := (hX5 es (by simp)).1
  have b_bu := (hX5 bu (by simp)).1
  have b_vb := (hX5 vb (by simp)).1
  obtain ⟨⟨⟨n1, n2, n3, n4⟩, n5, n6, n7⟩, n8, n9, n10⟩ := hMd
  have n_mm_ra : Hd (mm ≠ ra) := n1
  have n_mm_sa : Hd (mm ≠ sa) := n2
  have n_mm_ka : Hd (mm ≠ ka) := n3
  have n_mm_ta : Hd (mm ≠ ta) := n4
  have n_ra_sa : Hd (ra ≠ sa) := n5
  have n_ra_ka : Hd (ra ≠ ka) := n6
  have n_ra_ta : Hd (ra ≠ ta) := n7
  have n_sa_ka : Hd (sa ≠ ka) := n8
  have n_sa_ta : Hd (sa ≠ ta) := n9
  have n_ka_ta : Hd (ka ≠ ta) := n10
  have hMd : Hd (((mm ≠ ra ∧ mm ≠ sa ∧ mm ≠ ka ∧ mm ≠ ta) ∧ ra ≠ sa ∧ ra ≠ ka ∧ ra ≠ ta) ∧ sa ≠ ka ∧ sa ≠ ta ∧ ka ≠ ta) := ⟨⟨⟨n1, n2, n3, n4⟩, n5, n6, n7⟩, n8, n9, n10⟩
  clear n1 n2 n3 n4 n5 n6 n7 n8 n9 n10
  obtain ⟨b_mm, b_ra, b_sa, b_ka, b_ta⟩ := id hMb
  obtain ⟨i_mm, i_ra, i_sa, i_ka, i_ta⟩ := id hMi
  have b_out : kBase D ≤ out := by omega
  have hcc : c0 ≤ c1 := by omega
  have w_mm : mm < c1 := by omega
  have n_mm_out : Hd (mm ≠ out) := Nat.ne_of_lt i_mm.2
  have n_mm_outD : Hd (mm ≠ outD) := Nat.ne_of_lt (Nat.lt_trans i_mm.2 hod)
  have w_ra : ra < c1 := by omega
  have n_ra_out : Hd (ra ≠ out) := Nat.ne_of_lt i_ra.2
  have n_ra_outD : Hd (ra ≠ outD) := Nat.ne_of_lt (Nat.lt_trans i_ra.2 hod)
  have w_sa : sa < c1 := by omega
  have n_sa_out : Hd (sa ≠ out) := Nat.ne_of_lt i_sa.2
  have n_sa_outD : Hd (sa ≠ outD) := Nat.ne_of_lt (Nat.lt_trans i_sa.2 hod)
  have w_ka : ka < c1 := by omega
  have n_ka_out : Hd (ka ≠ out) := Nat.ne_of_lt i_ka.2
  have n_ka_outD : Hd (ka ≠ outD) := Nat.ne_of_lt (Nat.lt_trans i_ka.2 hod)
  have w_ta : ta < c1 := by omega
  have n_ta_out : Hd (ta ≠ out) := Nat.ne_of_lt i_ta.2
  have n_ta_outD : Hd (ta ≠ outD) := Nat.ne_of_lt (Nat.lt_trans i_ta.2 hod)
  have ge_mm : ∀ q, q = mm → kNW s.heap q := fun q h => by rw [h]; show s.heap.size ≤ mm; omega
  have ge_ra : ∀ q, q = ra → kNW s.heap q := fun q h => by rw [h]; show s.heap.size ≤ ra; omega
  have ge_sa : ∀ q, q = sa → kNW s.heap q := fun q h => by rw [h]; show s.heap.size ≤ sa; omega
  have ge_ka : ∀ q, q = ka → kNW s.heap q := fun q h => by rw [h]; show s.heap.size ≤ ka; omega
  have ge_ta : ∀ q, q = ta → kNW s.heap q := fun q h => by rw [h]; show s.heap.size ≤ ta; omega
  have ge_out : ∀ q, q = out → kNW s.heap q := fun q h => by rw [h]; show s.heap.size ≤ out; omega
  have n_out_outD : Hd (out ≠ outD) := Nat.ne_of_lt hod
  have w_out : out < c1 := by omega
  have w_outD : outD < c1 := hdc
  have i_outD : c0 ≤ outD := by omega
  have htyo : kTy D H out := Or.inr ⟨2, _, by decide, hA_out⟩
  have htyd : kTy D H outD := Or.inr ⟨3, _, by decide, hA_outD⟩
  have to_out : ∀ x, x = out → H.size ≤ x ∨ (kTy D H x ∧ c0 ≤ x ∧ x < c1) := fun x h => by rw [h]; exact Or.inr ⟨htyo, hco, w_out⟩
  have to_outD : ∀ x, x = outD → H.size ≤ x ∨ (kTy D H x ∧ c0 ≤ x ∧ x < c1) := fun x h => by rw [h]; exact Or.inr ⟨htyd, i_outD, w_outD⟩
  obtain ⟨⟨hO_st, mc9, hO_la⟩, hLs9, hLn9, hF9, hDs9, hb1, hb2, hb3⟩ := id hP_kState_st
  have hnx : ∀ q, kOwn D st la ea F S.length q → q ≠ hi ∧ q ≠ es ∧ q ≠ x1 := fun q hq => by
    have h9 := (hOw q hq).1
    simp only [List.mem_cons, List.not_mem_nil, or_false, not_or] at h9
    exact ⟨h9.2.1, h9.2.2.1, h9.1⟩
  have hnO9 : ∀ q, kOwn D st la ea F S.length q → q ≠ out := fun q hq => (out_of (hOw q hq).2 hco w_out).symm
  have nex : Hd (x1 ≠ hi ∧ x1 ≠ es) := by
    obtain ⟨_, _, _, y1, y2, _⟩ := hDq
    exact ⟨(kO_ne hd9 y1 hO_x1 (by decide) (by decide) (by decide)).symm, kOA_ne hd9 hO_x1 y2 (by decide) (by decide)⟩
  have neo : Hd (hi ≠ out ∧ es ≠ out ∧ x1 ≠ out) := ⟨(io_hi out hco w_out).symm, (io_es out hco w_out).symm, (io_x1 out hco w_out).symm⟩
  by_cases hA : 1 ≤ z1 ∧ z1 ≤ 6
  · -- hA
    have hrv : -2147483648 ≤ gap ∧ gap ≤ 2147483647 := ⟨by omega, by omega⟩
    refine lv_aload_n hx hb dL_law_696 rfl (lv_at hl 1 rfl) ?_
    refine lv_aload_n hx hb dL_law_697 rfl (lv_at hl 0 rfl) ?_
    refine lv_iload hx hb dL_law_698 (lv_at hl 5 rfl) ?_
    refine kx_iconst hx hb dL_law_700 ?_
    refine kx_iadd hx hb dL_law_701 ?_
    refine kx_sld (i := (((3 * j : Nat) : Int) + 1)) hx hb hX hbl hbA hS (3 * j + 1) (by omega) (by omega) (by omega) dL_law_702 ?_
    refine kx_eqi (z1) (hz1.symm) ?_
    refine lv_aload_n hx hb dL_law_703 rfl (lv_at hl 3 rfl) ?_
    refine kx_ci (vx_runSW (As := [.ref x1, .int (kI (z1)), .ref out]) (rest := []) ⟨hx, hb, hml, hown, hts⟩ (wr_setGap l hl9 D H x1 ((sl.map (fun a => a.1.1)).head?) hi bu es ((hl2.map (fun a => a.1.1))) st la ea F S gap z1 out go hO_x1 hP_kState_st hDq hA_out (by first | assumption | omega) (by first | assumption | omega) (by first | assumption | omega) (by first | assumption | omega) nex (by first | assumption | omega) (by first | assumption | omega) (by first | assumption | omega) neo (by first | assumption | omega)) (vx_cwSW 3 hts (lw_SW q1924 q1925 q78 q1926) rfl rfl rfl (by decide +kernel) ⟨Nat.le_of_ble_eq_true rfl, Nat.le_of_ble_eq_true rfl⟩) (kx_ps hK hS hB) rfl rfl hl.1 rfl (lv_room (Nat.le_of_ble_eq_true rfl)) dL_law_704 ⟨by first | exact Nat.le_of_ble_eq_true rfl | omega | (dsimp only [lwR]; omega) | (show _ ≤ _; omega), by first | exact Nat.le_of_ble_eq_true rfl | omega | (dsimp only [lwR]; omega) | (show _ ≤ _; omega)⟩) hS (fun q _ h => (fun h => Or.elim h (ge_out q) (fun h => Or.elim h (fun h => by have h8 := hP_kState_st.ownge h; show s.heap.size ≤ q; omega) (fun h => Or.elim h (fun h => by rw [h]; show s.heap.size ≤ hi; omega) (fun h => Or.elim h (fun h => by rw [h]; show s.heap.size ≤ es; omega) (fun h => Nat.le_trans hS.1 h))))) h) (fun q h => (fun h => Or.elim h (ge_out q) (fun h => Or.elim h (fun h => by have h8 := hP_kState_st.ownge h; show s.heap.size ≤ q; omega) (fun h => Or.elim h (fun h => by rw [h]; show s.heap.size ≤ hi; omega) (fun h => Or.elim h (fun h => by rw [h]; show s.heap.size ≤ es; omega) (fun h => Nat.le_trans hS.1 h))))) h) (fun z_6 H_4 locs_1 hz_3 hF_5 hS_2 => ?_)
    have hzf_7 := hF_5.1
    obtain ⟨crw, la2w, ea2w, F2w, ea3w, F3w, hv_14, ho_15, ho_16, ho_17, ho_18, ho_19, hw1, hw2, hw3⟩ := hz_3
    subst z_6
    have hW9 : kW D H_4 c0 c1 x1 (S, z1) ((sl.map Prod.snd).head?) (pushH (hl2.map Prod.snd) (S, gap)) t := kW.change (out := out) hd9 hxE hO_x1 hDq hTx hX5 hev hAl hDj hPw hsl hF_5 htyo ⟨hco, w_out⟩ hc1 ho_15 ho_16 ho_17 ho_18 hw1 hw2 hw3 (hok.gap' hA) (hG)
    refine lv_istore (lv' := [(6, .int (kI (0))), (0, .ref b), (1, .ref x1), (2, .ref mm), (3, .ref out), (4, .ref outD), (5, .int (kI ((3 * j : Nat) : Int)))]) hx hb dL_law_707 hl (by decide) rfl (fun ls hl => ?_)
    refine lv_aload_n hx hb dL_law_709 rfl (lv_at hl 3 rfl) ?_
    refine lv_aload_n hx hb dL_law_710 rfl (lv_at hl 1 rfl) ?_
    refine lv_iload hx hb dL_law_711 (lv_at hl 6 rfl) ?_
    refine kx_iconst hx hb dL_law_713 ?_
    refine kx_iadd hx hb dL_law_714 ?_
    refine kx_sld (i := (((3 * j : Nat) : Int) + 1)) hx hb hX hbl hbA hS_2 (3 * j + 1) (by omega) (by omega) (by omega) dL_law_715 ?_
    refine kx_eqi (z1) (hz1.symm) ?_
    have h_20 := hO_mm.fr hF_5 (fun h => Or.elim h (n_mm_out) (fun h => Or.elim h (fun h => out_of (hOw _ h).2 i_mm.1 w_mm rfl) (fun h => Or.elim h (io_hi _ i_mm.1 w_mm) (fun h => Or.elim h (io_es _ i_mm.1 w_mm) (fun h => Nat.not_le_of_gt hO_mm.lt h)))))
    have h_21 := hA_ra.fr hF_5 (fun h => Or.elim h (n_ra_out) (fun h => Or.elim h (fun h => out_of (hOw _ h).2 i_ra.1 w_ra rfl) (fun h => Or.elim h (io_hi _ i_ra.1 w_ra) (fun h => Or.elim h (io_es _ i_ra.1 w_ra) (fun h => Nat.not_le_of_gt hA_ra.lt h)))))
    have h_22 := hA_sa.fr hF_5 (fun h => Or.elim h (n_sa_out) (fun h => Or.elim h (fun h => out_of (hOw _ h).2 i_sa.1 w_sa rfl) (fun h => Or.elim h (io_hi _ i_sa.1 w_sa) (fun h => Or.elim h (io_es _ i_sa.1 w_sa) (fun h => Nat.not_le_of_gt hA_sa.lt h)))))
    have h_23 := hA_ka.fr hF_5 (fun h => Or.elim h (n_ka_out) (fun h => Or.elim h (fun h => out_of (hOw _ h).2 i_ka.1 w_ka rfl) (fun h => Or.elim h (io_hi _ i_ka.1 w_ka) (fun h => Or.elim h (io_es _ i_ka.1 w_ka) (fun h => Nat.not_le_of_gt hA_ka.lt h)))))
    have h_24 := hA_ta.fr hF_5 (fun h => Or.elim h (n_ta_out) (fun h => Or.elim h (fun h => out_of (hOw _ h).2 i_ta.1 w_ta rfl) (fun h => Or.elim h (io_hi _ i_ta.1 w_ta) (fun h => Or.elim h (io_es _ i_ta.1 w_ta) (fun h => Nat.not_le_of_gt hA_ta.lt h)))))
    have ty_mm : ∀ x, x = mm → H_4.size ≤ x ∨ (kTy D H_4 x ∧ c0 ≤ x ∧ x < c1) := fun x h => by rw [h]; exact Or.inr ⟨Or.inl ⟨2, _, by decide, by decide, by decide, h_20⟩, i_mm.1, w_mm⟩
    have ty_ra : ∀ x, x = ra → H_4.size ≤ x ∨ (kTy D H_4 x ∧ c0 ≤ x ∧ x < c1) := fun x h => by rw [h]; exact Or.inr ⟨Or.inr ⟨0, _, by decide, h_21⟩, i_ra.1, w_ra⟩
    have ty_sa : ∀ x, x = sa → H_4.size ≤ x ∨ (kTy D H_4 x ∧ c0 ≤ x ∧ x < c1) := fun x h => by rw [h]; exact Or.inr ⟨Or.inr ⟨0, _, by decide, h_22⟩, i_sa.1, w_sa⟩
    refine kx_ci (va_runV (As := [.int (kI (z1))]) (rest := []) ⟨hx, hb, hml, hown, hts⟩ (m_X3_setGap l D H_4 mm ra sa ka ta nh ik t.length th sp9 iw le9 fi9 se9 g gs S gap ((hl2.map Prod.snd)) z1 h_20 h_21 h_22 (by first | assumption | omega) (by first | assumption | omega) (by first | assumption | omega) n_mm_ra n_mm_sa n_ra_sa b_mm b_ra b_sa (by first | assumption | omega) (rg0 hA)) (cwV 1 hts (lw_V q2439 q2440 q2441 q89 q2442) rfl rfl rfl (by decide +kernel) ⟨Nat.le_of_ble_eq_true rfl, Nat.le_of_ble_eq_true rfl⟩) (kx_pv hK hS_2 hB (kx_rc hK h_20 (C := RX3) (T := TX3) (N := 13) rfl)) rfl rfl hl.1 rfl (lv_room (Nat.le_of_ble_eq_true rfl)) dL_law_716 ⟨by first | exact Nat.le_of_ble_eq_true rfl | omega | (dsimp only [lwR]; omega) | (show _ ≤ _; omega), by first | exact Nat.le_of_ble_eq_true rfl | omega | (dsimp only [lwR]; omega) | (show _ ≤ _; omega)⟩) hS_2 (fun q _ h => (fun h => Or.elim h (ge_mm q) (fun h => Or.elim h (ge_ra q) (ge_sa q))) h) (fun q h => (fun h => Or.elim h (ge_mm q) (fun h => Or.elim h (ge_ra q) (ge_sa q))) h) (fun z_30 H_28 locs_25 hz_27 hF_29 hS_26 => ?_)
    have hzf_31 := hF_29.1
    obtain ⟨g2_32, gs2_33, sn2_34, hv_35, ho_36, ho_37, ho_38, hM29, hH29⟩ := hz_27
    subst z_30
    refine lv_istore (lv' := [(7, .int (kI (gap))), (6, .int (kI (0))), (0, .ref b), (1, .ref x1), (2, .ref mm), (3, .ref out), (4, .ref outD), (5, .int (kI ((3 * j : Nat) : Int)))]) hx hb dL_law_719 hl (by decide) rfl (fun ls hl => ?_)
    refine lv_aload_n hx hb dL_law_721 rfl (lv_at hl 4 rfl) ?_
    refine kx_ci0 (va_runV (As := []) (rest := []) ⟨hx, hb, hml, hown, hts⟩ (m_X3_thrown l D H_28 mm ra sa ka ta sn2_34 ik t.length 0 sp9 iw le9 fi9 se9 ho_36 ) (cwV 0 hts (lw_V q2278 q2279 q2280 q89 q2281) rfl rfl rfl (by decide +kernel) ⟨Nat.le_of_ble_eq_true rfl, Nat.le_of_ble_eq_true rfl⟩) (kx_pv hK hS_26 hB (kx_rc hK ho_36 (C := RX3) (T := TX3) (N := 13) rfl)) rfl rfl hl.1 rfl (lv_room (Nat.le_of_ble_eq_true rfl)) dL_law_722 ⟨by first | exact Nat.le_of_ble_eq_true rfl | omega | (dsimp only [lwR]; omega) | (show _ ≤ _; omega), by first | exact Nat.le_of_ble_eq_true rfl | omega | (dsimp only [lwR]; omega) | (show _ ≤ _; omega)⟩) hS_26 (fun z_42 locs_39 hz_41 hS_40 => ?_)
    subst z_42
    refine lv_iload hx hb dL_law_725 (lv_at hl 1 rfl) ?_
    refine kx_icmp_eq (x := 0) (y := 0) (tgt := 732) hx hb dL_law_727 (by decide) (by omega) (by omega) (by omega) (by omega) (fun c_727_43 => ?_) (fun c_727_43 => ?_)
    · -- taken at 727
      refine lv_iload hx hb dL_law_732 (lv_at hl 1 rfl) ?_
      refine kx_if_ne (x := 0) (tgt := 749) hx hb dL_law_734 (by decide) (by omega) (by omega) (fun c_734_44 => ?_) (fun c_734_44 => ?_)
      · -- taken at 734
        exfalso; omega
      · -- not taken at 734
        refine lv_aload_n hx hb dL_law_737 rfl (lv_at hl 5 rfl) ?_
        refine kx_iconst hx hb dL_law_738 ?_
        have h_45 := ho_19.fr hF_29 (fun h => Or.elim h (n_mm_out.sm) (fun h => Or.elim h (n_ra_out.sm) (n_sa_out.sm)))
        refine kx_lald (i := 0) hx hb hK h_45 0 rfl (by decide) (by decide) dL_law_739 ?_
        refine lv_iload hx hb dL_law_740 (lv_at hl 0 rfl) ?_
        refine kx_i2l hx hb (z := gap) (by omega) (by omega) dL_law_742 ?_
        refine kx_lcmpE hx hb (x := ((kup go 0 (kL gap))) 0) (y := kL (gap)) (kup_self _ _ _) dL_law_743 ?_
        refine kx_if_eq (x := 0) (tgt := 749) hx hb dL_law_744 (by decide) (by omega) (by omega) (fun c_744_46 => ?_) (fun c_744_46 => ?_)
        · -- taken at 744
          refine lv_goto (tgt := 2493) hx hb dL_law_749 (by decide) ?_
          have h_47 := h_23.fr hF_29 (fun h => Or.elim h (n_mm_ka.sm) (fun h => Or.elim h (n_ra_ka.sm) (n_sa_ka.sm)))
          have h_48 := h_24.fr hF_29 (fun h => Or.elim h (n_mm_ta.sm) (fun h => Or.elim h (n_ra_ta.sm) (n_sa_ta.sm)))
          have h_49 := hA_outD.fr hF_5 (fun h => Or.elim h (n_out_outD.sm) (fun h => Or.elim h (fun h => out_of (hOw _ h).2 i_outD w_outD rfl) (fun h => Or.elim h (io_hi _ i_outD w_outD) (fun h => Or.elim h (io_es _ i_outD w_outD) (fun h => Nat.not_le_of_gt hA_outD.lt h)))))
          have h_50 := h_49.fr hF_29 (fun h => Or.elim h (n_mm_outD.sm) (fun h => Or.elim h (n_ra_outD.sm) (n_sa_outD.sm)))
          have h_51 := hW9.fr hd9 hF_29 (fun x => (fun h => Or.elim h (ty_mm x) (fun h => Or.elim h (ty_ra x) (ty_sa x))))
          refine W.widen (k := cells + 50000) (n := slots + 228000) (by omega) (by omega) ?_
          have hM9 : kM D H_28 c0 out mm (S, z1) ((sl.map Prod.snd).head?) (pushH (hl2.map Prod.snd) (S, gap)) t := ⟨ra, sa, ka, ta, _, _, _, _, _, _, _, _, _, _, _, _, ho_36, ho_37, ho_38, h_47, h_48, hM29, hH29, hMk, hMt, ht60, hMd, hMb, hMi⟩
          exact kk (S, z1) ((sl.map Prod.snd).head?) (pushH (hl2.map Prod.snd) (S, gap)) t _ _ _ ⟨hS_40, lv_sub hl [2, 3, 4, 5, 6, 7] rfl, h_51, hM9, ⟨_, h_45⟩, ⟨_, h_50⟩, by omega, by omega⟩
        · -- not taken at 744
          exfalso; omega
    · -- not taken at 727
      exfalso; omega
  · -- hA
    refine lv_aload_n hx hb dL_law_696 rfl (lv_at hl 1 rfl) ?_
    refine lv_aload_n hx hb dL_law_697 rfl (lv_at hl 0 rfl) ?_
    refine lv_iload hx hb dL_law_698 (lv_at hl 5 rfl) ?_
    refine kx_iconst hx hb dL_law_700 ?_
    refine kx_iadd hx hb dL_law_701 ?_
    refine kx_sld (i := (((3 * j : Nat) : Int) + 1)) hx hb hX hbl hbA hS (3 * j + 1) (by omega) (by omega) (by omega) dL_law_702 ?_
    refine kx_eqi (z1) (hz1.symm) ?_
    refine lv_aload_n hx hb dL_law_703 rfl (lv_at hl 3 rfl) ?_
    refine kx_ci (vx_runSW (As := [.ref x1, .int (kI (z1)), .ref out]) (rest := []) ⟨hx, hb, hml, hown, hts⟩ (wx_setGap l hl9 D H x1 ((sl.map (fun a => a.1.1)).head?) hi bu st la mc9 ea F S gap z1 out hO_x1 hO_st hO_la hLs9 hLn9 (by first | assumption | omega) (by first | assumption | omega) (by first | assumption | omega)) (vx_cwSW 3 hts (lw_SW q1924 q1925 q78 q1926) rfl rfl rfl (by decide +kernel) ⟨Nat.le_of_ble_eq_true rfl, Nat.le_of_ble_eq_true rfl⟩) (kx_ps hK hS hB) rfl rfl hl.1 rfl (lv_room (Nat.le_of_ble_eq_true rfl)) dL_law_704 ⟨by first | exact Nat.le_of_ble_eq_true rfl | omega | (dsimp only [lwR]; omega) | (show _ ≤ _; omega), by first | exact Nat.le_of_ble_eq_true rfl | omega | (dsimp only [lwR]; omega) | (show _ ≤ _; omega)⟩) hS (fun q _ h => by have h9 := hS.1; (try dsimp only at h); (try dsimp only); (try simp only [kNW] at h); (try simp only [kNW]); omega) (fun q h => by have h9 := hS.1; (try dsimp only at h); (try dsimp only); (try simp only [kNW] at h); (try simp only [kNW]); omega) (fun z_57 H_55 locs_52 hz_54 hF_56 hS_53 => ?_)
    have hzf_58 := hF_56.1
    have hF_56 := hF_56.nw
    obtain ⟨hv_59, hnw_60⟩ := hz_54
    subst z_57
    refine lv_istore (lv' := [(6, .int (kI (1))), (0, .ref b), (1, .ref x1), (2, .ref mm), (3, .ref out), (4, .ref outD), (5, .int (kI ((3 * j : Nat) : Int)))]) hx hb dL_law_707 hl (by decide) rfl (fun ls hl => ?_)
    refine lv_aload_n hx hb dL_law_709 rfl (lv_at hl 3 rfl) ?_
    refine lv_aload_n hx hb dL_law_710 rfl (lv_at hl 1 rfl) ?_
    refine lv_iload hx hb dL_law_711 (lv_at hl 6 rfl) ?_
    refine kx_iconst hx hb dL_law_713 ?_
    refine kx_iadd hx hb dL_law_714 ?_
    refine kx_sld (i := (((3 * j : Nat) : Int) + 1)) hx hb hX hbl hbA hS_53 (3 * j + 1) (by omega) (by omega) (by omega) dL_law_715 ?_
    refine kx_eqi (z1) (hz1.symm) ?_
    have h_61 := hO_mm.ex hF_56
    have h_62 := hA_ra.ex hF_56
    have h_63 := hA_sa.ex hF_56
    have h_64 := hA_ka.ex hF_56
    have h_65 := hA_ta.ex hF_56
    have ty_mm : ∀ x, x = mm → H_55.size ≤ x ∨ (kTy D H_55 x ∧ c0 ≤ x ∧ x < c1) := fun x h => by rw [h]; exact Or.inr ⟨Or.inl ⟨2, _, by decide, by decide, by decide, h_61⟩, i_mm.1, w_mm⟩
    refine kx_ci (va_runV (As := [.int (kI (z1))]) (rest := []) ⟨hx, hb, hml, hown, hts⟩ (m_X3_setGap_no l D H_55 mm ra sa ka ta nh ik t.length th sp9 iw le9 fi9 se9 g gs S gap ((hl2.map Prod.snd)) z1 h_61 h_62 h_63 (by first | assumption | omega) (by first | assumption | omega) (by first | assumption | omega) n_mm_ra n_mm_sa n_ra_sa b_mm b_ra b_sa (by first | assumption | omega) (by rw [rg1 hA]; decide) (by rw [rg1 hA]; decide)) (cwV 1 hts (lw_V q2439 q2440 q2441 q89 q2442) rfl rfl rfl (by decide +kernel) ⟨Nat.le_of_ble_eq_true rfl, Nat.le_of_ble_eq_true rfl⟩) (kx_pv hK hS_53 hB (kx_rc hK h_61 (C := RX3) (T := TX3) (N := 13) rfl)) rfl rfl hl.1 rfl (lv_room (Nat.le_of_ble_eq_true rfl)) dL_law_716 ⟨by first | exact Nat.le_of_ble_eq_true rfl | omega | (dsimp only [lwR]; omega) | (show _ ≤ _; omega), by first | exact Nat.le_of_ble_eq_true rfl | omega | (dsimp only [lwR]; omega) | (show _ ≤ _; omega)⟩) hS_53 (fun q _ h => (ge_mm q) h) (fun q h => (ge_mm q) h) (fun z_71 H_69 locs_66 hz_68 hF_70 hS_67 => ?_)
    have hzf_72 := hF_70.1
    obtain ⟨hv_73, ho_74⟩ := hz_68
    subst z_71
    refine lv_istore (lv' := [(7, .int (kI (0))), (6, .int (kI (1))), (0, .ref b), (1, .ref x1), (2, .ref mm), (3, .ref out), (4, .ref outD), (5, .int (kI ((3 * j : Nat) : Int)))]) hx hb dL_law_719 hl (by decide) rfl (fun ls hl => ?_)
    refine lv_aload_n hx hb dL_law_721 rfl (lv_at hl 4 rfl) ?_
    refine kx_ci0 (va_runV (As := []) (rest := []) ⟨hx, hb, hml, hown, hts⟩ (m_X3_thrown l D H_69 mm ra sa ka ta nh ik t.length (ref_g z1) sp9 iw le9 fi9 se9 ho_74 ) (cwV 0 hts (lw_V q2278 q2279 q2280 q89 q2281) rfl rfl rfl (by decide +kernel) ⟨Nat.le_of_ble_eq_true rfl, Nat.le_of_ble_eq_true rfl⟩) (kx_pv hK hS_67 hB (kx_rc hK ho_74 (C := RX3) (T := TX3) (N := 13) rfl)) rfl rfl hl.1 rfl (lv_room (Nat.le_of_ble_eq_true rfl)) dL_law_722 ⟨by first | exact Nat.le_of_ble_eq_true rfl | omega | (dsimp only [lwR]; omega) | (show _ ≤ _; omega), by first | exact Nat.le_of_ble_eq_true rfl | omega | (dsimp only [lwR]; omega) | (show _ ≤ _; omega)⟩) hS_67 (fun z_78 locs_75 hz_77 hS_76 => ?_)
    subst z_78
    refine kx_eqi (1) (rg1 hA) ?_
    refine lv_iload hx hb dL_law_725 (lv_at hl 1 rfl) ?_
    refine kx_icmp_eq (x := 1) (y := 1) (tgt := 732) hx hb dL_law_727 (by decide) (by omega) (by omega) (by omega) (by omega) (fun c_727_79 => ?_) (fun c_727_79 => ?_)
    · -- taken at 727
      refine lv_iload hx hb dL_law_732 (lv_at hl 1 rfl) ?_
      refine kx_if_ne (x := 1) (tgt := 749) hx hb dL_law_734 (by decide) (by omega) (by omega) (fun c_734_80 => ?_) (fun c_734_80 => ?_)
      · -- taken at 734
        refine lv_goto (tgt := 2493) hx hb dL_law_749 (by decide) ?_
        have h_81 := h_62.fr hF_70 (n_mm_ra.sm)
        have h_82 := h_63.fr hF_70 (n_mm_sa.sm)
        have h_83 := h_64.fr hF_70 (n_mm_ka.sm)
        have h_84 := h_65.fr hF_70 (n_mm_ta.sm)
        have h_85 := hA_out.ex hF_56
        have h_86 := h_85.fr hF_70 (n_mm_out.sm)
        have h_87 := hA_outD.ex hF_56
        have h_88 := h_87.fr hF_70 (n_mm_outD.sm)
        have h_89 := hW.ex hd9 hF_56
        have h_90 := h_89.fr hd9 hF_70 (fun x => (ty_mm x))
        refine W.widen (k := cells + 50000) (n := slots + 228000) (by omega) (by omega) ?_
        have hM9 : kM D H_69 c0 out mm (S, gap) ((sl.map Prod.snd).head?) (hl2.map Prod.snd) t := ⟨ra, sa, ka, ta, _, _, _, _, _, _, _, _, _, _, _, _, ho_74, h_81, h_82, h_83, h_84, hMr, hMh, hMk, hMt, ht60, hMd, hMb, hMi⟩
        exact kk (S, gap) ((sl.map Prod.snd).head?) (hl2.map Prod.snd) t _ _ _ ⟨hS_76, lv_sub hl [2, 3, 4, 5, 6, 7] rfl, h_90, hM9, ⟨_, h_86⟩, ⟨_, h_88⟩, by omega, by omega⟩
      · -- not taken at 734
        exfalso; omega
    · -- not taken at 727
      exfalso; omega

set_option maxHeartbeats 8000000 in
set_option maxRecDepth 100000 in
theorem lc_labelAll {p : Program} {e : Env} {s : State} {m : MethodId} {below : List Frame} {meth : Method} {c : Code} {l : Launch} {D : kG} {b L c0 c1 x1 mm out outD : Nat} {xs : Nat → Int32} {Q : State → Prop} (C0 : lwC D p l s m meth c b L c0 c1 out outD xs) {j : Nat} (hj : 3 * j + 3 ≤ L) {S : Ls} {gap : Int} {sn : Option Sg} {hs : List Sg} {t : List Int} {H : Heap} {locs : List Loc} {ls : Array Slot} (I0 : lwI D s b c0 c1 x1 mm out outD j j (S, gap) sn hs t H locs ls) {cells slots : Nat} (hcl : cells + 50000 ≤ 1200144) (hsl9 : slots + 228000 ≤ 5496058) (kk : ∀ (σ : Sg) (sn : Option Sg) (hs : List Sg) (t : List Int) (H : Heap) (locs : List Loc) (ls : Array Slot), lwI D s b c0 c1 x1 mm out outD j (j + 1) σ sn hs t H locs ls → W p l e lwR s m #[Value.ref b] below meth c H locs (cells + 50000) (slots + 228000) Q (F0 m 2493 ls [])) : W p l e lwR s m #[Value.ref b] below meth c H locs cells slots Q (F0 m 683 ls []) := by
  obtain ⟨hx, hb, hml, hown, hts, hlk, hK, hl9, hX, hbl, hbs, hL72, hc0, hco, hod, hdc⟩ := C0
  obtain ⟨hS, hl, hW, hM, ⟨go, hA_out⟩, ⟨gd, hA_outD⟩, hc1, htl⟩ := I0
  have hB : ∀ q, (kNW s.heap) q → kBase D ≤ q := fun q h => Nat.le_trans hK.size h
  have hbA : ¬ (kNW s.heap) b := fun h => by have h9 : s.heap.size ≤ b := h; omega
  have hd9 := hK.dis
  have hxE : ¬ kBase D ≤ D.2.2.2 2 := hK.tE.out
  obtain ⟨z1, hz1⟩ : ∃ z, z = (xs (3 * j + 1)).toInt := ⟨_, rfl⟩
  obtain ⟨z2, hz2⟩ : ∃ z, z = (xs (3 * j + 2)).toInt := ⟨_, rfl⟩
  have hr1 : -2147483648 ≤ z1 ∧ z1 ≤ 2147483647 := by rw [hz1]; exact i32r _
  have hr2 : -2147483648 ≤ z2 ∧ z2 ≤ 2147483647 := by rw [hz2]; exact i32r _
  obtain ⟨⟨st, la, ea, F⟩, sl, hl2, hi, es, bu, vb, hO_x1, hDq, hTx, hX5, hev, hAl, hDj, hPw, hsl, hsn, hhs⟩ := id hW
  subst hsn
  subst hhs
  obtain ⟨ra, sa, ka, ta, nh, ik, th, sp9, iw, le9, fi9, se9, g, gs, gk, gt, hO_mm, hA_ra, hA_sa, hA_ka, hA_ta, hMr, hMh, hMk, hMt, ht60, hMd, hMb, hMi⟩ := id hM
  have hMr : MRow g S gap := hMr
  have h0 := hAl _ List.mem_cons_self
  have hP_kState_st : kState D H st la ea gap S F := h0.1
  have hok : LsOK S gap := h0.2.1
  have hG : StG S := h0.2.2.1
  have hL8 : S.length ≤ 8 := hok.1
  have hgp := hok.2.1
  have hO_x1 : kO D H x1 0 [.ref st, va_rf ((sl.map (fun a => a.1.1)).head?), .ref hi, .ref bu] := hO_x1
  have hOw : ∀ q, kOwn D st la ea F S.length q → q ∉ [x1, hi, es, bu, vb] ∧ (q < c0 ∨ c1 ≤ q) := h0.2.2.2
  have hev : Hd (es ≠ vb) := hev
  have io_x1 : ∀ x, c0 ≤ x → x < c1 → x ≠ x1 := fun x => out_of (hX5 x1 (by simp)).2
  have io_hi : ∀ x, c0 ≤ x → x < c1 → x ≠ hi := fun x => out_of (hX5 hi (by simp)).2
  have io_es : ∀ x, c0 ≤ x → x < c1 → x ≠ es := fun x => out_of (hX5 es (by simp)).2
  have io_bu : ∀ x, c0 ≤ x → x < c1 → x ≠ bu := fun x => out_of (hX5 bu (by simp)).2
  have io_vb : ∀ x, c0 ≤ x → x < c1 → x ≠ vb := fun x => out_of (hX5 vb (by simp)).2
  have b_x1 := (hX5 x1 (by simp)).1
  have b_hi := (hX5 hi (by simp)).1
  have b_es := (hX5 es (by simp)).1
  have b_bu := (hX5 bu (by simp)).1
  have b_vb := (hX5 vb (by simp)).1
  obtain ⟨⟨⟨n1, n2, n3, n4⟩, n5, n6, n7⟩, n8, n9, n10⟩ := hMd
  have n_mm_ra : Hd (mm ≠ ra) := n1
  have n_mm_sa : Hd (mm ≠ sa) := n2
  have n_mm_ka : Hd (mm ≠ ka) := n3
  have n_mm_ta : Hd (mm ≠ ta) := n4
  have n_ra_sa : Hd (ra ≠ sa) := n5
  have n_ra_ka : Hd (ra ≠ ka) := n6
  have n_ra_ta : Hd (ra ≠ ta) := n7
  have n_sa_ka : Hd (sa ≠ ka) := n8
  have n_sa_ta : Hd (sa ≠ ta) := n9
  have n_ka_ta : Hd (ka ≠ ta) := n10
  have hMd : Hd (((mm ≠ ra ∧ mm ≠ sa ∧ mm ≠ ka ∧ mm ≠ ta) ∧ ra ≠ sa ∧ ra ≠ ka ∧ ra ≠ ta) ∧ sa ≠ ka ∧ sa ≠ ta ∧ ka ≠ ta) := ⟨⟨⟨n1, n2, n3, n4⟩, n5, n6, n7⟩, n8, n9, n10⟩
  clear n1 n2 n3 n4 n5 n6 n7 n8 n9 n10
  obtain ⟨b_mm, b_ra, b_sa, b_ka, b_ta⟩ := id hMb
  obtain ⟨i_mm, i_ra, i_sa, i_ka, i_ta⟩ := id hMi
  have b_out : kBase D ≤ out := by omega
  have hcc : c0 ≤ c1 := by omega
  have w_mm : mm < c1 := by omega
  have n_mm_out : Hd (mm ≠ out) := Nat.ne_of_lt i_mm.2
  have n_mm_outD : Hd (mm ≠ outD) := Nat.ne_of_lt (Nat.lt_trans i_mm.2 hod)
  have w_ra : ra < c1 := by omega
  have n_ra_out : Hd (ra ≠ out) := Nat.ne_of_lt i_ra.2
  have n_ra_outD : Hd (ra ≠ outD) := Nat.ne_of_lt (Nat.lt_trans i_ra.2 hod)
  have w_sa : sa < c1 := by omega
  have n_sa_out : Hd (sa ≠ out) := Nat.ne_of_lt i_sa.2
  have n_sa_outD : Hd (sa ≠ outD) := Nat.ne_of_lt (Nat.lt_trans i_sa.2 hod)
  have w_ka : ka < c1 := by omega
  have n_ka_out : Hd (ka ≠ out) := Nat.ne_of_lt i_ka.2
  have n_ka_outD : Hd (ka ≠ outD) := Nat.ne_of_lt (Nat.lt_trans i_ka.2 hod)
  have w_ta : ta < c1 := by omega
  have n_ta_out : Hd (ta ≠ out) := Nat.ne_of_lt i_ta.2
  have n_ta_outD : Hd (ta ≠ outD) := Nat.ne_of_lt (Nat.lt_trans i_ta.2 hod)
  have ge_mm : ∀ q, q = mm → kNW s.heap q := fun q h => by rw [h]; show s.heap.size ≤ mm; omega
  have ge_ra : ∀ q, q = ra → kNW s.heap q := fun q h => by rw [h]; show s.heap.size ≤ ra; omega
  have ge_sa : ∀ q, q = sa → kNW s.heap q := fun q h => by rw [h]; show s.heap.size ≤ sa; omega
  have ge_ka : ∀ q, q = ka → kNW s.heap q := fun q h => by rw [h]; show s.heap.size ≤ ka; omega
  have ge_ta : ∀ q, q = ta → kNW s.heap q := fun q h => by rw [h]; show s.heap.size ≤ ta; omega
  have ge_out : ∀ q, q = out → kNW s.heap q := fun q h => by rw [h]; show s.heap.size ≤ out; omega
  have n_out_outD : Hd (out ≠ outD) := Nat.ne_of_lt hod
  have w_out : out < c1 := by omega
  have w_outD : outD < c1 := hdc
  have i_outD : c0 ≤ outD := by omega
  have htyo : kTy D H out := Or.inr ⟨2, _, by decide, hA_out⟩
  have htyd : kTy D H outD := Or.inr ⟨3, _, by decide, hA_outD⟩
  have to_out : ∀ x, x = out → H.size ≤ x ∨ (kTy D H x ∧ c0 ≤ x ∧ x < c1) := fun x h => by rw [h]; exact Or.inr ⟨htyo, hco, w_out⟩
  have to_outD : ∀ x, x = outD → H.size ≤ x ∨ (kTy D H x ∧ c0 ≤ x ∧ x < c1) := fun x h => by rw [h]; exact Or.inr ⟨htyd, i_outD, w_outD⟩
  obtain ⟨⟨hO_st, mc9, hO_la⟩, hLs9, hLn9, hF9, hDs9, hb1, hb2, hb3⟩ := id hP_kState_st
  have hnx : ∀ q, kOwn D st la ea F S.length q → q ≠ hi ∧ q ≠ es ∧ q ≠ x1 := fun q hq => by
    have h9 := (hOw q hq).1
    simp only [List.mem_cons, List.not_mem_nil, or_false, not_or] at h9
    exact ⟨h9.2.1, h9.2.2.1, h9.1⟩
  have hnO9 : ∀ q, kOwn D st la ea F S.length q → q ≠ out := fun q hq => (out_of (hOw q hq).2 hco w_out).symm
  have nex : Hd (x1 ≠ hi ∧ x1 ≠ es) := by
    obtain ⟨_, _, _, y1, y2, _⟩ := hDq
    exact ⟨(kO_ne hd9 y1 hO_x1 (by decide) (by decide) (by decide)).symm, kOA_ne hd9 hO_x1 y2 (by decide) (by decide)⟩
  have neo : Hd (hi ≠ out ∧ es ≠ out ∧ x1 ≠ out) := ⟨(io_hi out hco w_out).symm, (io_es out hco w_out).symm, (io_x1 out hco w_out).symm⟩
  have hr9 := st_lab_nn (st_la S gap)
  have hr8 := hok.la.1
  refine lv_aload_n hx hb dL_law_683 rfl (lv_at hl 1 rfl) ?_
  refine kx_ci (va_runV (As := []) (rest := []) ⟨hx, hb, hml, hown, hts⟩ (m_X1_labelAll l D H x1 ((sl.map (fun a => a.1.1)).head?) hi bu es ((hl2.map (fun a => a.1.1))) st la ea F S gap hO_x1 hP_kState_st hDq (by first | assumption | omega) (by first | assumption | omega) (by first | assumption | omega) (by first | assumption | omega) nex) (cwV 0 hts (lw_V q243 q244 q245 q79 q246) rfl rfl rfl (by decide +kernel) ⟨Nat.le_of_ble_eq_true rfl, Nat.le_of_ble_eq_true rfl⟩) (kx_pv hK hS hB (kx_rc hK hO_x1 (C := RX1) (T := TX1) (N := 4) rfl)) rfl rfl hl.1 rfl (lv_room (Nat.le_of_ble_eq_true rfl)) dL_law_684 ⟨by first | exact Nat.le_of_ble_eq_true rfl | omega | (dsimp only [lwR]; omega) | (show _ ≤ _; omega), by first | exact Nat.le_of_ble_eq_true rfl | omega | (dsimp only [lwR]; omega) | (show _ ≤ _; omega)⟩) hS (fun q _ h => (fun h => Or.elim h (fun h => by have h8 := hP_kState_st.ownge h; show s.heap.size ≤ q; omega) (fun h => Or.elim h (fun h => by rw [h]; show s.heap.size ≤ hi; omega) (fun h => Or.elim h (fun h => by rw [h]; show s.heap.size ≤ es; omega) (fun h => Nat.le_trans hS.1 h)))) h) (fun q h => (fun h => Or.elim h (fun h => by have h8 := hP_kState_st.ownge h; show s.heap.size ≤ q; omega) (fun h => Or.elim h (fun h => by rw [h]; show s.heap.size ≤ hi; omega) (fun h => Or.elim h (fun h => by rw [h]; show s.heap.size ≤ es; omega) (fun h => Nat.le_trans hS.1 h)))) h) (fun z_6 H_4 locs_1 hz_3 hF_5 hS_2 => ?_)
  have hzf_7 := hF_5.1
  obtain ⟨crw, la2w, ea2w, F2w, ea3w, F3w, hv_14, ho_15, ho_16, ho_17, ho_18, hw1, hw2, hw3⟩ := hz_3
  subst z_6
  have hW9 : kW D H_4 c0 c1 x1 (st_la S gap, gap) ((sl.map Prod.snd).head?) (pushH (hl2.map Prod.snd) (S, gap)) t := kW.change (out := out) hd9 hxE hO_x1 hDq hTx hX5 hev hAl hDj hPw hsl ⟨hF_5.1, fun q y1 y2 => hF_5.2 q y1 (fun h => y2 (Or.inr h))⟩ htyo ⟨hco, w_out⟩ hc1 ho_15 ho_16 ho_17 ho_18 hw1 hw2 hw3 (hok.la) (hG.la hok)
  refine lv_aload_n hx hb dL_law_687 rfl (lv_at hl 2 rfl) ?_
  have h_19 := hO_mm.fr hF_5 (fun h => Or.elim h (fun h => out_of (hOw _ h).2 i_mm.1 w_mm rfl) (fun h => Or.elim h (io_hi _ i_mm.1 w_mm) (fun h => Or.elim h (io_es _ i_mm.1 w_mm) (fun h => Nat.not_le_of_gt hO_mm.lt h))))
  have h_20 := hA_ra.fr hF_5 (fun h => Or.elim h (fun h => out_of (hOw _ h).2 i_ra.1 w_ra rfl) (fun h => Or.elim h (io_hi _ i_ra.1 w_ra) (fun h => Or.elim h (io_es _ i_ra.1 w_ra) (fun h => Nat.not_le_of_gt hA_ra.lt h))))
  have h_21 := hA_sa.fr hF_5 (fun h => Or.elim h (fun h => out_of (hOw _ h).2 i_sa.1 w_sa rfl) (fun h => Or.elim h (io_hi _ i_sa.1 w_sa) (fun h => Or.elim h (io_es _ i_sa.1 w_sa) (fun h => Nat.not_le_of_gt hA_sa.lt h))))
  have h_22 := hA_ka.fr hF_5 (fun h => Or.elim h (fun h => out_of (hOw _ h).2 i_ka.1 w_ka rfl) (fun h => Or.elim h (io_hi _ i_ka.1 w_ka) (fun h => Or.elim h (io_es _ i_ka.1 w_ka) (fun h => Nat.not_le_of_gt hA_ka.lt h))))
  have h_23 := hA_ta.fr hF_5 (fun h => Or.elim h (fun h => out_of (hOw _ h).2 i_ta.1 w_ta rfl) (fun h => Or.elim h (io_hi _ i_ta.1 w_ta) (fun h => Or.elim h (io_es _ i_ta.1 w_ta) (fun h => Nat.not_le_of_gt hA_ta.lt h))))
  have ty_mm : ∀ x, x = mm → H_4.size ≤ x ∨ (kTy D H_4 x ∧ c0 ≤ x ∧ x < c1) := fun x h => by rw [h]; exact Or.inr ⟨Or.inl ⟨2, _, by decide, by decide, by decide, h_19⟩, i_mm.1, w_mm⟩
  have ty_ra : ∀ x, x = ra → H_4.size ≤ x ∨ (kTy D H_4 x ∧ c0 ≤ x ∧ x < c1) := fun x h => by rw [h]; exact Or.inr ⟨Or.inr ⟨0, _, by decide, h_20⟩, i_ra.1, w_ra⟩
  have ty_sa : ∀ x, x = sa → H_4.size ≤ x ∨ (kTy D H_4 x ∧ c0 ≤ x ∧ x < c1) := fun x h => by rw [h]; exact Or.inr ⟨Or.inr ⟨0, _, by decide, h_21⟩, i_sa.1, w_sa⟩
  refine kx_ci (va_runV (As := []) (rest := [.int (kI (st_lab (st_la S gap)))]) ⟨hx, hb, hml, hown, hts⟩ (m_X3_labelAll l D H_4 mm ra sa ka ta nh ik t.length th sp9 iw le9 fi9 se9 g gs S gap ((hl2.map Prod.snd)) h_19 h_20 h_21 (by first | assumption | omega) (by first | assumption | omega) (by first | assumption | omega) n_mm_ra n_mm_sa n_ra_sa b_mm b_ra b_sa) (cwV 0 hts (lw_V q2435 q2436 q2437 q89 q2438) rfl rfl rfl (by decide +kernel) ⟨Nat.le_of_ble_eq_true rfl, Nat.le_of_ble_eq_true rfl⟩) (kx_pv hK hS_2 hB (kx_rc hK h_19 (C := RX3) (T := TX3) (N := 13) rfl)) rfl rfl hl.1 rfl (lv_room (Nat.le_of_ble_eq_true rfl)) dL_law_688 ⟨by first | exact Nat.le_of_ble_eq_true rfl | omega | (dsimp only [lwR]; omega) | (show _ ≤ _; omega), by first | exact Nat.le_of_ble_eq_true rfl | omega | (dsimp only [lwR]; omega) | (show _ ≤ _; omega)⟩) hS_2 (fun q _ h => (fun h => Or.elim h (ge_mm q) (fun h => Or.elim h (ge_ra q) (ge_sa q))) h) (fun q h => (fun h => Or.elim h (ge_mm q) (fun h => Or.elim h (ge_ra q) (ge_sa q))) h) (fun z_29 H_27 locs_24 hz_26 hF_28 hS_25 => ?_)
  have hzf_30 := hF_28.1
  obtain ⟨g2_31, gs2_32, sn2_33, hv_34, ho_35, ho_36, ho_37, hM29, hH29⟩ := hz_26
  subst z_29
  refine kx_icmp_eq (x := st_lab (st_la S gap)) (y := st_lab (st_la S gap)) (tgt := 2493) hx hb dL_law_691 (by decide) (by omega) (by omega) (by omega) (by omega) (fun cd9 => ?_) (fun cd9 => ?_)
  · -- taken at 691
    have h_38 := h_22.fr hF_28 (fun h => Or.elim h (n_mm_ka.sm) (fun h => Or.elim h (n_ra_ka.sm) (n_sa_ka.sm)))
    have h_39 := h_23.fr hF_28 (fun h => Or.elim h (n_mm_ta.sm) (fun h => Or.elim h (n_ra_ta.sm) (n_sa_ta.sm)))
    have h_40 := hA_out.fr hF_5 (fun h => Or.elim h (fun h => out_of (hOw _ h).2 hco w_out rfl) (fun h => Or.elim h (io_hi _ hco w_out) (fun h => Or.elim h (io_es _ hco w_out) (fun h => Nat.not_le_of_gt hA_out.lt h))))
    have h_41 := h_40.fr hF_28 (fun h => Or.elim h (n_mm_out.sm) (fun h => Or.elim h (n_ra_out.sm) (n_sa_out.sm)))
    have h_42 := hA_outD.fr hF_5 (fun h => Or.elim h (fun h => out_of (hOw _ h).2 i_outD w_outD rfl) (fun h => Or.elim h (io_hi _ i_outD w_outD) (fun h => Or.elim h (io_es _ i_outD w_outD) (fun h => Nat.not_le_of_gt hA_outD.lt h))))
    have h_43 := h_42.fr hF_28 (fun h => Or.elim h (n_mm_outD.sm) (fun h => Or.elim h (n_ra_outD.sm) (n_sa_outD.sm)))
    have h_44 := hW9.fr hd9 hF_28 (fun x => (fun h => Or.elim h (ty_mm x) (fun h => Or.elim h (ty_ra x) (ty_sa x))))
    refine W.widen (k := cells + 50000) (n := slots + 228000) (by omega) (by omega) ?_
    have hM9 : kM D H_27 c0 out mm (st_la S gap, gap) ((sl.map Prod.snd).head?) (pushH (hl2.map Prod.snd) (S, gap)) t := ⟨ra, sa, ka, ta, _, _, _, _, _, _, _, _, _, _, _, _, ho_35, ho_36, ho_37, h_38, h_39, hM29, hH29, hMk, hMt, ht60, hMd, hMb, hMi⟩
    exact kk (st_la S gap, gap) ((sl.map Prod.snd).head?) (pushH (hl2.map Prod.snd) (S, gap)) t _ _ _ ⟨hS_25, lv_sub hl [0, 1, 2, 3, 4, 5] rfl, h_44, hM9, ⟨_, h_41⟩, ⟨_, h_43⟩, by omega, by omega⟩
  · -- not taken at 691
    exfalso; omega

