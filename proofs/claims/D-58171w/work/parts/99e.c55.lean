theorem dec_lt {n k : Nat} {P : Prop} (h : k < n + 1) (a : k = n → P) (b : k < n → P) : P := by
  rcases Nat.lt_or_eq_of_le (Nat.le_of_lt_succ h) with z | z
  · exact b z
  · exact a z
set_option maxHeartbeats 8000000 in
set_option maxRecDepth 100000 in
/-- THE LAW'S LOOP -/
theorem law_loop {p : Program} {e : Env} {s : State} {m : MethodId} {below : List Frame} {meth : Method} {c : Code} {l : Launch} {D : kG} {b L c0 c1 x1 mm out outD : Nat} {xs : Nat → Int32} {Q : State → Prop} (C0 : lwC D p l s m meth c b L c0 c1 out outD xs) {cells0 slots0 : Nat} (h1 : cells0 ≤ 144) (h2 : slots0 ≤ 24058)
    (kend : ∀ (H : Heap) (ls : Array Slot), W p l e lwR s m #[Value.ref b] below meth c H [] 1200144 5496058 Q (F0 m 2500 ls [.int 1])) : ∀ (n j : Nat), L < 3 * j + n → 3 * j ≤ L → ∀ (σ : Sg) (sn : Option Sg) (hs : List Sg) (t : List Int) (H : Heap) (locs : List Loc) (ls : Array Slot), lwI D s b c0 c1 x1 mm out outD j j σ sn hs t H locs ls → W p l e lwR s m #[Value.ref b] below meth c H locs (cells0 + 50000 * j) (slots0 + 228000 * j) Q (F0 m 28 ls []) := by
  obtain ⟨hx, hb, hml, hown, hts, hlk, hK, hl9, hX, hbl, hbs, hL72, hc0, hco, hod, hdc⟩ := id C0
  have hbA : ¬ (kNW s.heap) b := fun h => by have h9 : s.heap.size ≤ b := h; omega
  intro n
  induction n with
  | zero => intro j h3 h4; omega
  | succ n ih =>
    intro j h3 h4 σ sn hs t H locs ls I0
    obtain ⟨S, gap⟩ := σ
    obtain ⟨hS, hl, -⟩ := id I0
    refine lv_iload hx hb dL_law_28 (lv_at hl 5 rfl) ?_
    refine lv_aload_n hx hb dL_law_30 rfl (lv_at hl 0 rfl) ?_
    refine kx_slen hx hb hX hbl hbA hS dL_law_31 ?_
    refine kx_iconst hx hb dL_law_32 ?_
    refine kx_isub hx hb dL_law_33 ?_
    refine kx_icmp_gt (x := ((3 * j : Nat) : Int)) (y := (((L : Nat) : Int) - 3)) (tgt := 2499) hx hb dL_law_34 (by decide) (by omega) (by omega) (by omega) (by omega) (fun c9 => ?_) (fun c9 => ?_)
    · refine lv_iconst (v := 1) hx hb dL_law_2499 (by decide) ?_
      refine va_forget (fun q hq => hS.2.2 q hq) ?_
      refine W.widen (k := 1200144) (n := 5496058) (by omega) (by omega) ?_
      exact kend _ _
    have hj3 : 3 * j + 3 ≤ L := by omega
    have hcl : cells0 + 50000 * j + 50000 ≤ 1200144 := by omega
    have hsl9 : slots0 + 228000 * j + 228000 ≤ 5496058 := by omega
    have back : ∀ (σ : Sg) (sn : Option Sg) (hs : List Sg) (t : List Int) (H : Heap) (locs : List Loc) (ls : Array Slot), lwI D s b c0 c1 x1 mm out outD j (j + 1) σ sn hs t H locs ls → W p l e lwR s m #[Value.ref b] below meth c H locs (cells0 + 50000 * j + 50000) (slots0 + 228000 * j + 228000) Q (F0 m 2493 ls []) := by
      intro σ sn hs t H locs ls I1
      obtain ⟨hS1, hl1, hW1, hM1, hg1, hd1, hc1, ht1⟩ := I1
      refine lv_iinc (v := kI ((3 * j + 3 : Nat) : Int)) (lv' := [(5, .int (kI ((3 * j + 3 : Nat) : Int))), (0, .ref b), (1, .ref x1), (2, .ref mm), (3, .ref out), (4, .ref outD)]) hx hb dL_law_2493 hl1 (k := 5) rfl (kI_incN _ _) (by decide) rfl (fun ls hl2 => ?_)
      refine lv_goto (tgt := 28) hx hb dL_law_2496 (by decide) ?_
      have e9 : 3 * j + 3 = 3 * (j + 1) := by omega
      rw [e9] at hl2
      have key := ih (j + 1) (by omega) (by omega) σ sn hs t H locs ls ⟨hS1, lv_sub hl2 [1, 2, 3, 4, 5, 0] rfl, hW1, hM1, hg1, hd1, hc1, ht1⟩
      rw [Nat.mul_succ 50000 j, Nat.mul_succ 228000 j, ← Nat.add_assoc, ← Nat.add_assoc] at key
      exact key
    refine lv_aload_n hx hb dL_law_37 rfl (lv_at hl 0 rfl) ?_
    refine lv_iload hx hb dL_law_38 (lv_at hl 5 rfl) ?_
    refine kx_sld (i := ((3 * j : Nat) : Int)) hx hb hX hbl hbA hS (3 * j) rfl (by omega) (by omega) dL_law_40 ?_
    refine kx_bipush hx hb (by decide) dL_law_41 ?_
    refine kx_eqi 63 rfl ?_
    rw [← kI_self (xs (3 * j))]
    refine kx_iand63 hx hb dL_law_43 (fun k hk64 => ?_)
    rcases Nat.lt_or_ge k 44 with hk | hk
    · skip
      refine dec_lt (n := 43) hk (fun h => ?_) (fun hk => ?_)
      · subst h
        refine lv_tableIn (off := 2405) (tgt := 2449) hx hb dL_law_44 (by decide) (by decide) (by decide) (by decide) ?_
        exact lc_restoreSnapshot C0 hj3 I0 hcl hsl9 back
      refine dec_lt (n := 42) hk (fun h => ?_) (fun hk => ?_)
      · subst h
        refine lv_tableIn (off := 2392) (tgt := 2436) hx hb dL_law_44 (by decide) (by decide) (by decide) (by decide) ?_
        exact lc_takeSnapshot C0 hj3 I0 hcl hsl9 back
      refine dec_lt (n := 41) hk (fun h => ?_) (fun hk => ?_)
      · subst h
        refine lv_tableIn (off := 2379) (tgt := 2423) hx hb dL_law_44 (by decide) (by decide) (by decide) (by decide) ?_
        exact lc_savedStates C0 hj3 I0 hcl hsl9 back
      refine dec_lt (n := 40) hk (fun h => ?_) (fun hk => ?_)
      · subst h
        refine lv_tableIn (off := 2335) (tgt := 2379) hx hb dL_law_44 (by decide) (by decide) (by decide) (by decide) ?_
        exact lc_undo C0 hj3 I0 hcl hsl9 back
      refine dec_lt (n := 39) hk (fun h => ?_) (fun hk => ?_)
      · subst h
        refine lv_tableIn (off := 2291) (tgt := 2335) hx hb dL_law_44 (by decide) (by decide) (by decide) (by decide) ?_
        exact lc_runText C0 hj3 I0 hcl hsl9 back
      refine dec_lt (n := 38) hk (fun h => ?_) (fun hk => ?_)
      · subst h
        refine lv_tableIn (off := 2278) (tgt := 2322) hx hb dL_law_44 (by decide) (by decide) (by decide) (by decide) ?_
        exact lc_errorPosition C0 hj3 I0 hcl hsl9 back
      refine dec_lt (n := 37) hk (fun h => ?_) (fun hk => ?_)
      · subst h
        refine lv_tableIn (off := 2265) (tgt := 2309) hx hb dL_law_44 (by decide) (by decide) (by decide) (by decide) ?_
        exact lc_clearText C0 hj3 I0 hcl hsl9 back
      refine dec_lt (n := 36) hk (fun h => ?_) (fun hk => ?_)
      · subst h
        refine lv_tableIn (off := 2209) (tgt := 2253) hx hb dL_law_44 (by decide) (by decide) (by decide) (by decide) ?_
        exact lc_append C0 hj3 I0 hcl hsl9 back
      refine dec_lt (n := 35) hk (fun h => ?_) (fun hk => ?_)
      · subst h
        refine lv_tableIn (off := 2153) (tgt := 2197) hx hb dL_law_44 (by decide) (by decide) (by decide) (by decide) ?_
        exact lc_lineByLevel C0 hj3 I0 hcl hsl9 back
      refine dec_lt (n := 34) hk (fun h => ?_) (fun hk => ?_)
      · subst h
        refine lv_tableIn (off := 2090) (tgt := 2134) hx hb dL_law_44 (by decide) (by decide) (by decide) (by decide) ?_
        exact lc_isSteady C0 hj3 I0 hcl hsl9 back
      refine dec_lt (n := 33) hk (fun h => ?_) (fun hk => ?_)
      · subst h
        refine lv_tableIn (off := 2034) (tgt := 2078) hx hb dL_law_44 (by decide) (by decide) (by decide) (by decide) ?_
        exact lc_lineRound C0 hj3 I0 hcl hsl9 back
      refine dec_lt (n := 32) hk (fun h => ?_) (fun hk => ?_)
      · subst h
        refine lv_tableIn (off := 1978) (tgt := 2022) hx hb dL_law_44 (by decide) (by decide) (by decide) (by decide) ?_
        exact lc_pointsWithin C0 hj3 I0 hcl hsl9 back
      refine dec_lt (n := 31) hk (fun h => ?_) (fun hk => ?_)
      · subst h
        refine lv_tableIn (off := 1903) (tgt := 1947) hx hb dL_law_44 (by decide) (by decide) (by decide) (by decide) ?_
        exact lc_isWithinBySpreading C0 hj3 I0 hcl hsl9 back
      refine dec_lt (n := 30) hk (fun h => ?_) (fun hk => ?_)
      · subst h
        refine lv_tableIn (off := 1828) (tgt := 1872) hx hb dL_law_44 (by decide) (by decide) (by decide) (by decide) ?_
        exact lc_isWithinByRays C0 hj3 I0 hcl hsl9 back
      refine dec_lt (n := 29) hk (fun h => ?_) (fun hk => ?_)
      · subst h
        refine lv_tableIn (off := 1815) (tgt := 1859) hx hb dL_law_44 (by decide) (by decide) (by decide) (by decide) ?_
        exact lc_tooNear C0 hj3 I0 hcl hsl9 back
      refine dec_lt (n := 28) hk (fun h => ?_) (fun hk => ?_)
      · subst h
        refine lv_tableIn (off := 1759) (tgt := 1803) hx hb dL_law_44 (by decide) (by decide) (by decide) (by decide) ?_
        exact lc_bestPlace C0 hj3 I0 hcl hsl9 back
      refine dec_lt (n := 27) hk (fun h => ?_) (fun hk => ?_)
      · subst h
        refine lv_tableIn (off := 1703) (tgt := 1747) hx hb dL_law_44 (by decide) (by decide) (by decide) (by decide) ?_
        exact lc_placesOf C0 hj3 I0 hcl hsl9 back
      refine dec_lt (n := 26) hk (fun h => ?_) (fun hk => ?_)
      · subst h
        refine lv_tableIn (off := 1635) (tgt := 1679) hx hb dL_law_44 (by decide) (by decide) (by decide) (by decide) ?_
        exact lc_whyNotLabelled C0 hj3 I0 hcl hsl9 back
      refine dec_lt (n := 25) hk (fun h => ?_) (fun hk => ?_)
      · subst h
        refine lv_tableIn (off := 1567) (tgt := 1611) hx hb dL_law_44 (by decide) (by decide) (by decide) (by decide) ?_
        exact lc_bendOf C0 hj3 I0 hcl hsl9 back
      refine dec_lt (n := 24) hk (fun h => ?_) (fun hk => ?_)
      · subst h
        refine lv_tableIn (off := 1511) (tgt := 1555) hx hb dL_law_44 (by decide) (by decide) (by decide) (by decide) ?_
        exact lc_sizeOf C0 hj3 I0 hcl hsl9 back
      refine dec_lt (n := 23) hk (fun h => ?_) (fun hk => ?_)
      · subst h
        refine lv_tableIn (off := 1455) (tgt := 1499) hx hb dL_law_44 (by decide) (by decide) (by decide) (by decide) ?_
        exact lc_readFrom C0 hj3 I0 hcl hsl9 back
      refine dec_lt (n := 22) hk (fun h => ?_) (fun hk => ?_)
      · subst h
        refine lv_tableIn (off := 1392) (tgt := 1436) hx hb dL_law_44 (by decide) (by decide) (by decide) (by decide) ?_
        exact lc_isTurned C0 hj3 I0 hcl hsl9 back
      refine dec_lt (n := 21) hk (fun h => ?_) (fun hk => ?_)
      · subst h
        refine lv_tableIn (off := 1336) (tgt := 1380) hx hb dL_law_44 (by decide) (by decide) (by decide) (by decide) ?_
        exact lc_labelOf C0 hj3 I0 hcl hsl9 back
      refine dec_lt (n := 20) hk (fun h => ?_) (fun hk => ?_)
      · subst h
        refine lv_tableIn (off := 1323) (tgt := 1367) hx hb dL_law_44 (by decide) (by decide) (by decide) (by decide) ?_
        exact lc_labels C0 hj3 I0 hcl hsl9 back
      refine dec_lt (n := 19) hk (fun h => ?_) (fun hk => ?_)
      · subst h
        refine lv_tableIn (off := 1310) (tgt := 1354) hx hb dL_law_44 (by decide) (by decide) (by decide) (by decide) ?_
        exact lc_gap C0 hj3 I0 hcl hsl9 back
      refine dec_lt (n := 18) hk (fun h => ?_) (fun hk => ?_)
      · subst h
        refine lv_tableIn (off := 1233) (tgt := 1277) hx hb dL_law_44 (by decide) (by decide) (by decide) (by decide) ?_
        exact lc_lengthBySteps C0 hj3 I0 hcl hsl9 back
      refine dec_lt (n := 17) hk (fun h => ?_) (fun hk => ?_)
      · subst h
        refine lv_tableIn (off := 1156) (tgt := 1200) hx hb dL_law_44 (by decide) (by decide) (by decide) (by decide) ?_
        exact lc_lengthByKinds C0 hj3 I0 hcl hsl9 back
      refine dec_lt (n := 16) hk (fun h => ?_) (fun hk => ?_)
      · subst h
        refine lv_tableIn (off := 1088) (tgt := 1132) hx hb dL_law_44 (by decide) (by decide) (by decide) (by decide) ?_
        exact lc_bendAt C0 hj3 I0 hcl hsl9 back
      refine dec_lt (n := 15) hk (fun h => ?_) (fun hk => ?_)
      · subst h
        refine lv_tableIn (off := 1020) (tgt := 1064) hx hb dL_law_44 (by decide) (by decide) (by decide) (by decide) ?_
        exact lc_whyNotStepped C0 hj3 I0 hcl hsl9 back
      refine dec_lt (n := 14) hk (fun h => ?_) (fun hk => ?_)
      · subst h
        refine lv_tableIn (off := 957) (tgt := 1001) hx hb dL_law_44 (by decide) (by decide) (by decide) (by decide) ?_
        exact lc_isClosed C0 hj3 I0 hcl hsl9 back
      refine dec_lt (n := 13) hk (fun h => ?_) (fun hk => ?_)
      · subst h
        refine lv_tableIn (off := 901) (tgt := 945) hx hb dL_law_44 (by decide) (by decide) (by decide) (by decide) ?_
        exact lc_lineAt C0 hj3 I0 hcl hsl9 back
      refine dec_lt (n := 12) hk (fun h => ?_) (fun hk => ?_)
      · subst h
        refine lv_tableIn (off := 833) (tgt := 877) hx hb dL_law_44 (by decide) (by decide) (by decide) (by decide) ?_
        exact lc_pointOf C0 hj3 I0 hcl hsl9 back
      refine dec_lt (n := 11) hk (fun h => ?_) (fun hk => ?_)
      · subst h
        refine lv_tableIn (off := 777) (tgt := 821) hx hb dL_law_44 (by decide) (by decide) (by decide) (by decide) ?_
        exact lc_stepsOf C0 hj3 I0 hcl hsl9 back
      refine dec_lt (n := 10) hk (fun h => ?_) (fun hk => ?_)
      · subst h
        refine lv_tableIn (off := 721) (tgt := 765) hx hb dL_law_44 (by decide) (by decide) (by decide) (by decide) ?_
        exact lc_levelOf C0 hj3 I0 hcl hsl9 back
      refine dec_lt (n := 9) hk (fun h => ?_) (fun hk => ?_)
      · subst h
        refine lv_tableIn (off := 708) (tgt := 752) hx hb dL_law_44 (by decide) (by decide) (by decide) (by decide) ?_
        exact lc_lines C0 hj3 I0 hcl hsl9 back
      refine dec_lt (n := 8) hk (fun h => ?_) (fun hk => ?_)
      · subst h
        refine lv_tableIn (off := 652) (tgt := 696) hx hb dL_law_44 (by decide) (by decide) (by decide) (by decide) ?_
        exact lc_setGap C0 hj3 I0 hcl hsl9 back
      refine dec_lt (n := 7) hk (fun h => ?_) (fun hk => ?_)
      · subst h
        refine lv_tableIn (off := 639) (tgt := 683) hx hb dL_law_44 (by decide) (by decide) (by decide) (by decide) ?_
        exact lc_labelAll C0 hj3 I0 hcl hsl9 back
      refine dec_lt (n := 6) hk (fun h => ?_) (fun hk => ?_)
      · subst h
        refine lv_tableIn (off := 583) (tgt := 627) hx hb dL_law_44 (by decide) (by decide) (by decide) (by decide) ?_
        exact lc_labelBest C0 hj3 I0 hcl hsl9 back
      refine dec_lt (n := 5) hk (fun h => ?_) (fun hk => ?_)
      · subst h
        refine lv_tableIn (off := 527) (tgt := 571) hx hb dL_law_44 (by decide) (by decide) (by decide) (by decide) ?_
        exact lc_unlabel C0 hj3 I0 hcl hsl9 back
      refine dec_lt (n := 4) hk (fun h => ?_) (fun hk => ?_)
      · subst h
        refine lv_tableIn (off := 459) (tgt := 503) hx hb dL_law_44 (by decide) (by decide) (by decide) (by decide) ?_
        exact lc_label C0 hj3 I0 hcl hsl9 back
      refine dec_lt (n := 3) hk (fun h => ?_) (fun hk => ?_)
      · subst h
        refine lv_tableIn (off := 391) (tgt := 435) hx hb dL_law_44 (by decide) (by decide) (by decide) (by decide) ?_
        exact lc_setLevel C0 hj3 I0 hcl hsl9 back
      refine dec_lt (n := 2) hk (fun h => ?_) (fun hk => ?_)
      · subst h
        refine lv_tableIn (off := 335) (tgt := 379) hx hb dL_law_44 (by decide) (by decide) (by decide) (by decide) ?_
        exact lc_wipe C0 hj3 I0 hcl hsl9 back
      refine dec_lt (n := 1) hk (fun h => ?_) (fun hk => ?_)
      · subst h
        refine lv_tableIn (off := 260) (tgt := 304) hx hb dL_law_44 (by decide) (by decide) (by decide) (by decide) ?_
        exact lc_step C0 hj3 I0 hcl hsl9 back
      refine dec_lt (n := 0) hk (fun h => ?_) (fun hk => ?_)
      · subst h
        refine lv_tableIn (off := 192) (tgt := 236) hx hb dL_law_44 (by decide) (by decide) (by decide) (by decide) ?_
        exact lc_begin C0 hj3 I0 hcl hsl9 back
      exact absurd hk (Nat.not_lt_zero _)
    · refine lv_tableOut (tgt := 2493) hx hb dL_law_44 (Or.inr (by rw [kI_toInt (by omega) (by omega)]; omega)) (by decide) ?_
      exact W.widen (k := cells0 + 50000 * j + 50000) (n := slots0 + 228000 * j + 228000) (by omega) (by omega) (back _ _ _ _ _ _ _ ⟨I0.1, I0.2.1, I0.2.2.1, I0.2.2.2.1, I0.2.2.2.2.1, I0.2.2.2.2.2.1, I0.2.2.2.2.2.2.1, Nat.le_succ_of_le I0.2.2.2.2.2.2.2⟩)

