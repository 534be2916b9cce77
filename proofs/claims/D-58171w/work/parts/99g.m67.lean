/-! MATH 67: the world at the start -/
theorem st_F (tA tD tE tC fm la lt l0 : Nat) (ad lc : Nat → Nat) : ∃ F : Nat → Nat, F 0 = tA ∧ F 1 = tD ∧ F 2 = tE ∧ F 3 = tC ∧ F 6 = fm ∧ F 7 = la ∧ F 8 = lt ∧ F 500 = l0 ∧ (∀ j, j < 256 → F (100 + j) = ad j) ∧ ∀ i, i < 17 → F (400 + i) = lc i := by
  refine ⟨fun n => if n = 0 then tA else if n = 1 then tD else if n = 2 then tE else if n = 3 then tC else if n = 6 then fm else if n = 7 then la else if n = 8 then lt else if n < 400 then ad (n - 100) else if n < 500 then lc (n - 400) else l0, rfl, rfl, rfl, rfl, rfl, rfl, rfl, rfl, fun j hj => ?_, fun i hi => ?_⟩
  · show (if 100 + j = 0 then tA else _) = _
    rw [if_neg (by omega), if_neg (by omega), if_neg (by omega), if_neg (by omega), if_neg (by omega), if_neg (by omega), if_neg (by omega), if_pos (by omega), Nat.add_sub_cancel_left]
  · show (if 400 + i = 0 then tA else _) = _
    rw [if_neg (by omega), if_neg (by omega), if_neg (by omega), if_neg (by omega), if_neg (by omega), if_neg (by omega), if_neg (by omega), if_neg (by omega), if_pos (by omega), Nat.add_sub_cancel_left]
theorem va_OF.slot {o n d : String} {v : Value} {t : Nat} {A : Nat → Prop} {U : State} {H : Heap} {i : Nat} {cell : Cell} (h : va_OF o n d v t A U H) (hi : SlotIs U o n d i) (hc : H[t]? = some cell) : cell.slots[i]? = some v ∧ cell.vm ≠ .unknown := by
  obtain ⟨cf, k, i2, f, cell2, f1, f2, f3, f4, f5, f6⟩ := h
  obtain ⟨cf', kf', fi', fd, e1, e2⟩ := hi
  cases hc.symm.trans f3
  cases f1.symm.trans e1
  rw [← e2]
  exact ⟨f5, f4⟩
set_option maxHeartbeats 2000000 in
theorem kK_start {s : State} {b : Nat} (hT : stT s b) (hs : stG s b) : ∃ D : kG, kK D s ∧ kBase D = s.heap.size := by
  have hA : ∀ a : Nat, a < s.heap.size → ¬ (fun q : Nat => s.heap.size ≤ q) a := fun a h => Nat.not_le.mpr h
  obtain ⟨tA, zA, aA⟩ := st_ac hT hs hA
  obtain ⟨tD, zD, aD⟩ := st_dn hT hs hA
  obtain ⟨tE, zE, aE⟩ := st_em hT hs hA
  have zC := st_cs hT hs hA
  have zH := st_hg hT hs hA
  obtain ⟨tC, ad, zCa, aC, bC1, bC2⟩ := st_ca hT hs hA
  have zU := st_us hT hs hA
  have zS := st_ss hT hs hA
  obtain ⟨fm, zF⟩ := st_fm hT hs hA
  obtain ⟨la, lt, rL, aL, fC, fV, ce, cL, kL, g1, g2, g3, g4, g5, g6⟩ := st_lt hT hs hA
  obtain ⟨dC, hdC⟩ := Classical.axiomOfChoice (st_cl hT)
  obtain ⟨dI, hdI⟩ := Classical.axiomOfChoice hdC
  obtain ⟨dA, hdA⟩ := Classical.axiomOfChoice (st_ar hT)
  obtain ⟨lc, hlc⟩ := Classical.axiomOfChoice (st_ls hs)
  obtain ⟨lo, hlo⟩ := Classical.axiomOfChoice hlc
  obtain ⟨F, hF0, hF1, hF2, hF3, hF6, hF7, hF8, hF5, hFa, hFl⟩ := st_F tA tD tE tC (match fm with | none => 0 | some a => a + 1) la lt ((lo 15).getD 0) ad lc
  have hfm : kFm (((dC, dI), dA, s.heap.size, F) : kG) = fm := by
    show (if F 6 = 0 then none else some (F 6 - 1)) = fm
    rw [hF6]
    cases fm <;> rfl
  have u14 : u_Kn s RJ23 TJ23 1 (dC 14) (dI 14) := hdI 14 _ rfl
  have u12 : u_Kn s RJ6 TJ6 4 (dC 12) (dI 12) := hdI 12 _ rfl
  have hsl : ∀ k, k < 4 → dI 12 k < ce.slots.size := fun k hk => by
    obtain ⟨hSl, hfc, kC, hkC, hkind⟩ := u12
    obtain ⟨cf, kf, fi, f, e1, e2⟩ := hSl k hk
    have h3 := (u_facts hfc hkC (u_lays (st_all hT) in_J6 hk) e1).2.2
    have hc : cL = dC 12 := Option.some.inj (g3.symm.trans hfc)
    rw [hc] at g4
    cases g4.symm.trans hkC
    rw [g6 hkind, ← e2]
    exact (Array.getElem?_eq_some_iff.mp h3).1
  have lm : ∀ i q, kLmL[i]? = some q → kLmAt (((dC, dI), dA, s.heap.size, F) : kG) s i q := by
    intro i q hq
    have hi : i < 17 := (List.getElem?_eq_some_iff.mp hq).1
    obtain ⟨m, k, cf, i0, p0, l, h1, h2, h3, h4, -, h6, h7, h8, h9⟩ := State.lambdaAt?_spec (hlo i q hq)
    refine ⟨m, k, cf, i0, p0, l, h1, h2, h3, h4, h6, ?_, ?_, ?_⟩
    · show Lambda.isMade _ _ _ _ (F (400 + i)) = true
      rw [hFl i hi]; exact h7
    · show s.lambdaCallable _ (F (400 + i)) = true
      rw [hFl i hi]; exact h8
    · show if i = 15 then l = .constant (F 500) else l = .makes (F (400 + i))
      rw [hFl i hi, hF5]
      by_cases h15 : i = 15
      · rw [if_pos h15]
        subst h15
        have hq15 : q = (⟨"ContourLabels$TextReader", "order", "()V"⟩, 225, 87, ls_16) := (Option.some.inj hq).symm
        rcases h9 with ⟨a, cell, w1, w2, w3⟩ | ⟨w1, w2, w3⟩
        · rw [w1, w2]; rfl
        · exact absurd (by rw [hq15]; rfl) w3
      · rw [if_neg h15]
        rcases h9 with ⟨a, cell, w1, w2, w3, -⟩ | ⟨w1, w2, w3⟩
        · exfalso
          have key : ∀ j : Nat, j < 17 → j ≠ 15 → ∀ z, kLmL[j]? = some z → z.2.2.2.captured ≠ [] := by
            intro j hj hne z hz
            have hd : ∀ j : Nat, j < 17 → j ≠ 15 → (kLmL[j]?.map (fun z => z.2.2.2.captured.isEmpty)) = some false := by decide +kernel
            have h := hd j hj hne
            rw [hz] at h
            intro e
            rw [Option.map_some, e] at h
            cases h
          exact key i hi h15 q hq w3
        · exact w1
  have l0 : (∃ c9 : Cell, s.heap[F 500]? = some c9 ∧ c9.cls = F 415 ∧ c9.slots = #[] ∧ c9.vm = .none) ∧ ¬ s.heap.size ≤ F 500 := by
    obtain ⟨m, k, cf, i0, p0, l, h1, h2, h3, h4, -, h6, h7, h8, h9⟩ := State.lambdaAt?_spec (hlo 15 _ rfl)
    rcases h9 with ⟨a, cell, w1, w2, w3, w4, w5, w6, w7⟩ | ⟨w1, w2, w3⟩
    · have e5 : F 500 = a := by rw [hF5, w2]; rfl
      have e4 : F 415 = lc 15 := hFl 15 (by decide)
      rw [e5, e4]
      exact ⟨⟨cell, w4, w5, w7, w6⟩, Nat.not_le.mpr (Array.getElem?_eq_some_iff.mp w4).1⟩
    · exact absurd rfl w3
  refine ⟨((dC, dI), dA, s.heap.size, F), ⟨⟨hdI, fun k q hq => ?_⟩, st_nw hT, Nat.le_refl _, ⟨?_, ?_, ?_, ?_, ?_, ?_, zC, zH, ?_, ?_, ?_, zU, zS, ?_, ?_, ?_, l0⟩, st_fw hT hs, ?_, lm, st_if hT⟩, rfl⟩
  · match k, hq with
    | 0, hq => cases hq; exact hdA 0 _ rfl
    | 1, hq => cases hq; exact hdA 1 _ rfl
    | 2, hq => cases hq; exact hdA 2 _ rfl
    | 3, hq => cases hq; exact hdA 3 _ rfl
    | 4, hq => cases hq; exact hdA 4 _ rfl
    | 5, hq => cases hq; exact hdA 5 _ rfl
    | 6, hq => cases hq; exact hdA 6 _ rfl
    | k + 7, hq => simp at hq
  · show va_Z _ _ _ (.ref (F 0)) _ s s.heap
    rw [hF0]; exact zA
  · show va_T .int (F 0) 8 _ _ s s.heap
    rw [hF0]; exact aA
  · show va_Z _ _ _ (.ref (F 1)) _ s s.heap
    rw [hF1]; exact zD
  · show va_T .int (F 1) 8 _ _ s s.heap
    rw [hF1]; exact aD
  · show va_Z _ _ _ (.ref (F 2)) _ s s.heap
    rw [hF2]; exact zE
  · show va_T _ (F 2) 0 _ _ s s.heap
    rw [hF2]; exact aE
  · show va_Z _ _ _ (.ref (F 3)) _ s s.heap
    rw [hF3]; exact zCa
  · show va_T _ (F 3) 256 (fun j => .ref (F (100 + j))) _ s s.heap
    rw [hF3]
    obtain ⟨cell, h1, h2, h3, h4, h5, h6, h7⟩ := aC
    exact ⟨cell, h1, h2, h3, h4, h5, fun j hj => by rw [h6 j hj, hFa j hj], h7⟩
  · intro j hj
    show kO _ s.heap (F (100 + j)) 14 _ ∧ ¬ s.heap.size ≤ F (100 + j)
    rw [hFa j hj]
    obtain ⟨cell, h1, h2, h3, h4⟩ := bC1 j hj
    have hlt := (Array.getElem?_eq_some_iff.mp h1).1
    have w := (bC2 j hj).slot (u14.1 0 (by decide)) h1
    refine ⟨Or.inr ⟨Or.inr rfl, hlt, (RJ23, TJ23, 1), cell, rfl, h1, Option.some.inj (h3.symm.trans u14.2.1), w.2, h2, fun k hk => ?_⟩, Nat.not_le.mpr hlt⟩
    have hk0 : k = 0 := Nat.lt_one_iff.mp hk
    subst hk0
    show cell.slots[dI 14 0]? = some (.int (kI ((j : Int) - 128)))
    rw [← vbc_eq j hj]
    exact w.1
  · show va_Z _ _ _ (va_rf (kFm _)) _ s s.heap
    rw [hfm]; exact zF
  · show va_T .byte (F 8) 8 _ _ s s.heap
    rw [hF8]; exact aL
  · show (∃ h z : Value, kO _ s.heap (F 7) 12 [.ref (F 8), .int (kI 0), h, z]) ∧ ¬ s.heap.size ≤ F 7
    rw [hF7, hF8]
    have hlt := (Array.getElem?_eq_some_iff.mp g1).1
    have w0 := fV.slot (u12.1 0 (by decide)) g1
    have w1 := fC.slot (u12.1 1 (by decide)) g1
    refine ⟨⟨ce.slots[dI 12 2]'(hsl 2 (by decide)), ce.slots[dI 12 3]'(hsl 3 (by decide)), Or.inr ⟨Or.inl rfl, hlt, (RJ6, TJ6, 4), ce, rfl, g1, g2.trans (Option.some.inj (g3.symm.trans u12.2.1)), w0.2, g5, fun k hk => ?_⟩⟩, Nat.not_le.mpr hlt⟩
    match k, hk with
    | 0, _ => exact w0.1
    | 1, _ => exact w1.1
    | 2, _ => exact Array.getElem?_eq_getElem (hsl 2 (by decide))
    | 3, _ => exact Array.getElem?_eq_getElem (hsl 3 (by decide))
  · show vk_R _ _ _ (F 7) s
    rw [hF7]; exact rL

