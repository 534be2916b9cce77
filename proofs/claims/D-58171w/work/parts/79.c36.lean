/-! MATH 52: a map in the heap -/
def kBx (D : kG) (H : Heap) (M : List Nat) (kf : Nat → Nat) (kv : Nat → Int) : Prop := ∀ a, a ∈ M → kO D H (kf a) 14 [.int (kI (kv a))] ∧ 0 ≤ kv a ∧ kv a ≤ 1000
theorem kBx.ex {D : kG} {H H1 : Heap} {M : List Nat} {kf : Nat → Nat} {kv : Nat → Int} (h : kBx D H M kf kv) (q : kEx H H1) : kBx D H1 M kf kv := fun a ha => ⟨(h a ha).1.ex q, (h a ha).2⟩
theorem kBx.up {D : kG} {H H1 : Heap} {M : List Nat} {b : Nat} {kf : Nat → Nat} {kv : Nat → Int} (h : kBx D H M kf kv) (q : kUp H b H1) (hb : ∀ a, a ∈ M → kf a ≠ b) : kBx D H1 M kf kv := fun a ha => ⟨(h a ha).1.up q (hb a ha), (h a ha).2⟩
theorem kBx.fr {D : kG} {H H1 : Heap} {M : List Nat} {A : Nat → Prop} {kf : Nat → Nat} {kv : Nat → Int} (h : kBx D H M kf kv) (q : kFr A H H1) (hb : ∀ a, a ∈ M → ¬ A (kf a)) : kBx D H1 M kf kv := fun a ha => ⟨(h a ha).1.fr q (hb a ha), (h a ha).2⟩
theorem kBx.cons {D : kG} {H : Heap} {M : List Nat} {kf : Nat → Nat} {kv : Nat → Int} {x kx : Nat} {K : Int} (h : kBx D H M kf kv) (hx : x ∉ M) (hO : kO D H kx 14 [.int (kI K)]) (hK : 0 ≤ K ∧ K ≤ 1000) : kBx D H (x :: M) (kup kf x kx) (kup kv x K) := by
  intro a ha
  by_cases e : a = x
  · subst e; simp only [kup, if_true]; exact ⟨hO, hK⟩
  · have ha' : a ∈ M := (List.mem_cons.mp ha).resolve_left e
    simp only [kup, if_neg e]; exact h a ha'
theorem tso {R : Nat → Nat → Prop} {c : TC} {y : Nat} {l r : TT} (h : (tio (tpl c (TN y l r))).Pairwise R) : (∀ b, b ∈ tio l → R b y) ∧ ∀ b, b ∈ tio r → R y b := by
  rw [tio_pl] at h
  have h1 := (List.pairwise_append.mp (List.pairwise_append.mp h).1).2.1
  simp only [tio] at h1
  have h2 := List.pairwise_append.mp h1
  exact ⟨fun b hb => h2.2.2 b hb y (by simp), fun b hb => (List.pairwise_cons.mp h2.2.1).1 b hb⟩
theorem i_cmp_cases (x y : Int) : (x < y ∧ i_cmp x y = -1) ∨ (x = y ∧ i_cmp x y = 0) ∨ (y < x ∧ i_cmp x y = 1) := by
  unfold i_cmp
  by_cases h : x < y
  · exact Or.inl ⟨h, if_pos h⟩
  · by_cases h2 : x = y
    · exact Or.inr (Or.inl ⟨h2, by rw [if_neg h, if_pos h2]⟩)
    · exact Or.inr (Or.inr ⟨by omega, by rw [if_neg h, if_neg h2]⟩)
def kTM (D : kG) (H : Heap) (mp b0 : Nat) (E : List (Nat × Int)) : Prop := ∃ (ro : Option Nat) (kf vf : Nat → Nat) (lf rt pr : Nat → Option Nat) (co : Nat → Bool) (t : TT) (kv : Nat → Int),
  kO D H mp 15 [.null, .null, .null, va_rf ro, .int (kI ((E.length : Nat) : Int)), .int (kI ((E.length : Nat) : Int)), .null, .null, .null] ∧ kTN D H (E.map Prod.fst) kf vf lf rt pr co ∧ kBx D H (E.map Prod.fst) kf kv ∧ ZI lf rt pr ro [] t (E.map Prod.fst) ∧ tio t = E.map Prod.fst ∧ (∀ a, ro = some a → co a = true) ∧ (∀ q, q ∈ E → kv q.1 = q.2) ∧ b0 ≤ mp ∧ ∀ q, q ∈ E → b0 ≤ q.1
theorem kTM.ex {D : kG} {H H1 : Heap} {mp b0 : Nat} {E : List (Nat × Int)} (h : kTM D H mp b0 E) (q : kEx H H1) : kTM D H1 mp b0 E := by
  obtain ⟨ro, kf, vf, lf, rt, pr, co, t, kv, h1, h2, h3, h4⟩ := h
  exact ⟨ro, kf, vf, lf, rt, pr, co, t, kv, h1.ex q, h2.ex q, h3.ex q, h4⟩
/-- one more entry -/
theorem kTM.put {D : kG} {H : Heap} {mp b0 : Nat} {E : List (Nat × Int)} {ro2 : Option Nat} {kf2 vf2 : Nat → Nat} {lf2 rt2 pr2 : Nat → Option Nat} {co2 : Nat → Bool} {t2 : TT} {kv : Nat → Int} {x : Nat} {K : Int} {M : List Nat}
    (hO : kO D H mp 15 [.null, .null, .null, va_rf ro2, .int (kI ((E.length + 1 : Nat) : Int)), .int (kI ((E.length + 1 : Nat) : Int)), .null, .null, .null]) (hT : kTN D H M kf2 vf2 lf2 rt2 pr2 co2) (hB : kBx D H M kf2 (kup kv x K)) (hZ : ZI lf2 rt2 pr2 ro2 [] t2 M) (hbl : ∀ a, ro2 = some a → co2 a = true)
    (hkv : ∀ q, q ∈ E → kv q.1 = q.2) (hx : x ∉ E.map Prod.fst) (hb : b0 ≤ mp) (hbx : b0 ≤ x) (hbE : ∀ q, q ∈ E → b0 ≤ q.1)
    (hio : ∃ pre post, E.map Prod.fst = pre ++ post ∧ tio t2 = pre ++ x :: post ∧ (∀ a, a ∈ pre → kv a < K) ∧ ∀ a, a ∈ post → K < kv a) :
    ∃ E2, kTM D H mp b0 E2 ∧ ∃ pre post y, E = pre ++ post ∧ E2 = pre ++ (y, K) :: post ∧ (∀ q, q ∈ pre → q.2 < K) ∧ ∀ q, q ∈ post → K < q.2 := by
  obtain ⟨pre, post, e1, e2, e3, e4⟩ := hio
  obtain ⟨P, Q, rfl, rfl, rfl⟩ := List.map_eq_append_iff.mp e1
  have hm : (P ++ (x, K) :: Q).map Prod.fst = tio t2 := by rw [e2]; simp
  have hM : ∀ y, y ∈ (P ++ (x, K) :: Q).map Prod.fst ↔ y ∈ M := fun y => by rw [hm]; exact (hZ.2.2.2.2 y).symm
  have hl : (P ++ (x, K) :: Q).length = (P ++ Q).length + 1 := by simp; omega
  refine ⟨P ++ (x, K) :: Q, ⟨ro2, kf2, vf2, lf2, rt2, pr2, co2, t2, kup kv x K, ?_, fun a ha => hT a ((hM a).mp ha), fun a ha => hB a ((hM a).mp ha), ⟨hZ.1, hZ.2.1, hZ.2.2.1, hZ.2.2.2.1, fun y => by rw [hm]; exact Iff.rfl⟩, hm.symm, hbl, fun q hq => ?_, hb, fun q hq => ?_⟩, P, Q, x, rfl, rfl, fun q hq => ?_, fun q hq => ?_⟩
  · rw [hl]; exact hO
  · rcases List.mem_append.mp hq with h | h
    · have hne : q.1 ≠ x := fun z => hx (List.mem_map.mpr ⟨q, List.mem_append_left _ h, z⟩)
      simp only [kup, if_neg hne]; exact hkv q (List.mem_append_left _ h)
    · rcases List.mem_cons.mp h with h | h
      · subst h; simp [kup]
      · have hne : q.1 ≠ x := fun z => hx (List.mem_map.mpr ⟨q, List.mem_append_right _ h, z⟩)
        simp only [kup, if_neg hne]; exact hkv q (List.mem_append_right _ h)
  · rcases List.mem_append.mp hq with h | h
    · exact hbE q (List.mem_append_left _ h)
    · rcases List.mem_cons.mp h with h | h
      · subst h; exact hbx
      · exact hbE q (List.mem_append_right _ h)
  · have := e3 q.1 (List.mem_map.mpr ⟨q, hq, rfl⟩)
    rwa [hkv q (List.mem_append_left _ hq)] at this
  · have := e4 q.1 (List.mem_map.mpr ⟨q, hq, rfl⟩)
    rwa [hkv q (List.mem_append_right _ hq)] at this
set_option maxHeartbeats 4000000 in
set_option maxRecDepth 100000 in
theorem m_J28_put_2 (l : Launch) (D : kG) (H : Heap) (mp : Nat) (ro : Option Nat) (sz : Nat) (mc : Int) (ks : Option Nat) (M : List Nat) (kf : Nat → Nat) (vf : Nat → Nat) (lf : Nat → Option Nat) (rt : Nat → Option Nat) (pr : Nat → Option Nat) (co : Nat → Bool) (kx : Nat) (vx : Nat) (kv : Nat → Int) (K : Int) (r0 : Nat) (tl0 : TT) (tr0 : TT) (hO_mp : kO D H mp 15 [.null, .null, .null, va_rf (ro), .int (kI ((sz : Nat) : Int)), .int (kI (mc)), .null, .null, .null]) (hP_kTN_M : kTN D H M kf vf lf rt pr co) (hP_kBx_M : kBx D H M kf kv) (hO_kx : kO D H kx 14 [.int (kI (K))]) (hKr : 0 ≤ K ∧ K ≤ 1000) (hZ : ZI lf rt pr ro [] (TN r0 tl0 tr0) M) (hbl : ∀ a, ro = some a → co a = true) (hso : (tio (TN r0 tl0 tr0)).Pairwise (fun a b => kv a < kv b)) (hnk : ∀ a, a ∈ M → kv a ≠ K) (bs_mp : kBase D ≤ mp) (hmc : 0 ≤ mc ∧ mc ≤ 1000) (hsz : sz ≤ 1000) : Met l yJ28_put_2 (ws_ yJ28_put_2 cJ28_put_2 10 (some (.object "java/lang/Object"))) ({ frames := 3, cells := 1, slots := 6, locals := 69 } : Room) (kPre D H [.ref mp, .ref kx, .ref vx, .int (kI (kb (true)))]) (kQq (fun (r : Option Nat) H' => ∃ (x : Nat) (lf2 : Nat → Option Nat) (rt2 : Nat → Option Nat) (pr2 : Nat → Option Nat) (co2 : Nat → Bool) (ro2 : Option Nat) (t2 : TT), (r = none) ∧ (kO D H' mp 15 [.null, .null, .null, va_rf (ro2), .int (kI ((sz + 1 : Nat) : Int)), .int (kI (mc + 1)), .null, .null, .null]) ∧ (kTN D H' ((x :: M)) ((kup kf x kx)) ((kup vf x vx)) lf2 rt2 pr2 co2) ∧ (kBx D H' ((x :: M)) ((kup kf x kx)) ((kup kv x K))) ∧ (ZI lf2 rt2 pr2 ro2 [] t2 (x :: M)) ∧ (∃ pre post, tio (TN r0 tl0 tr0) = pre ++ post ∧ tio t2 = pre ++ x :: post ∧ (∀ a, a ∈ pre → kv a < K) ∧ ∀ a, a ∈ post → K < kv a) ∧ (∀ a, ro2 = some a → co2 a = true) ∧ (H.size ≤ x)) (fun q : Nat => q = mp ∨ q ∈ M ∨ H.size ≤ q)) (1) (6) ((fun q : Nat => q = mp ∨ q ∈ M ∨ H.size ≤ q)) := by
  refine Met.ofW (cc := cJ28_put_2) (maxL := 10) (ret := (some (.object "java/lang/Object"))) (by decide) rfl ?_
  intro p e s m args below meth c s₁ B hml hv
  obtain ⟨rfl, hH, hK⟩ := hv
  subst hH
  have hx := B.exec
  have hb := B.bytes
  have hr := B.returns
  have hts := atoms_spec (ws := ws_ yJ28_put_2 cJ28_put_2 10 (some (.object "java/lang/Object"))) B.pre
  have hts : ∀ w ∈ lw_all, w.before _ s = true := fun w h => hts w (List.mem_cons_of_mem _ h)
  have hown : s.vm.findClass RJ28 = some m.cls := findClass_of_methodNamed B.named
  have hlk := B.notSynchronized
  have hS : va_S (fun q : Nat => q = mp ∨ q ∈ M ∨ s.heap.size ≤ q) s.heap s.heap [] := va_S.rf
  have hB : ∀ q, (fun q : Nat => q = mp ∨ q ∈ M ∨ s.heap.size ≤ q) q → kBase D ≤ q := fun q h => by (have h1 := hK.size; rcases h with h | h | h; (rw [h]; exact bs_mp); exact (hP_kTN_M q h).1; omega)
  have hl := lv_entry ([.ref mp, .ref kx, .ref vx, .int (kI (kb (true)))]) (n := 10) (Nat.le_of_ble_eq_true rfl)
  rw [lg_entry_eq]
  generalize (lg_sl ([.ref mp, .ref kx, .ref vx, .int (kI (kb (true)))]) ++ List.replicate (10 - (lg_sl ([.ref mp, .ref kx, .ref vx, .int (kI (kb (true)))])).length) Slot.unset).toArray = ls at hl ⊢
  have hl : lv_has ls 10 [(0, .ref mp), (1, .ref kx), (2, .ref vx), (3, .int (kI (kb (true))))] := hl
  have hro : ro = some r0 := hZ.2.2.2.1
  have hd9 := hK.dis
  have hmpM : mp ∉ M := fun z => kO_ne hd9 hO_mp (hP_kTN_M mp z).2 (by decide) (by decide) (by decide) rfl
  have hbm : ∀ a, a ∈ M → kf a ≠ mp := fun a ha => kO_ne hd9 (hP_kBx_M a ha).1 hO_mp (by decide) (by decide) (by decide)
  have hbn : ∀ a, a ∈ M → ∀ b, b ∈ M → kf a ≠ b := fun a ha b hb => kO_ne hd9 (hP_kBx_M a ha).1 (hP_kTN_M b hb).2 (by decide) (by decide) (by decide)
  have hkm : kx ≠ mp := kO_ne hd9 hO_kx hO_mp (by decide) (by decide) (by decide)
  have hkn : ∀ b, b ∈ M → kx ≠ b := fun b hb => kO_ne hd9 hO_kx (hP_kTN_M b hb).2 (by decide) (by decide) (by decide)
  obtain ⟨ioz, hIO⟩ : ∃ z, z = tio (TN r0 tl0 tr0) := ⟨_, rfl⟩
  have hso : ioz.Pairwise (fun a b => kv a < kv b) := by rw [hIO]; exact hso
  refine lv_aload_n hx hb dJ28_put_2_0 rfl (lv_at hl 0 rfl) ?_
  refine kx_get (v := va_rf (ro)) (C := RJ28) (T := TJ28) (N := 9) hx hb hts in_J28 hown hK hO_mp rfl 3 (by decide) q543 (fun _ h9 => h9) rfl dJ28_put_2_1 ?_
  refine kx_eqq hx hb (b := r0) (hro) ?_
  refine lv_astore (lv' := [(4, .ref r0), (0, .ref mp), (1, .ref kx), (2, .ref vx), (3, .int (kI (kb (true))))]) hx hb dJ28_put_2_4 hl (by decide) rfl (fun ls hl => ?_)
  refine lv_aload hx hb dJ28_put_2_6 (lv_at hl 0 rfl) ?_
  refine lv_ifnonnull (tgt := 19) hx hb dJ28_put_2_8 (by decide) ?_
  refine lv_aload_n hx hb dJ28_put_2_19 rfl (lv_at hl 1 rfl) ?_
  refine kx_get (v := .null) (C := RJ28) (T := TJ28) (N := 9) hx hb hts in_J28 hown hK hO_mp rfl 2 (by decide) q542 (fun _ h9 => h9) rfl dJ28_put_2_20 ?_
  refine lv_astoreN (lv' := [(7, .null), (4, .ref r0), (0, .ref mp), (1, .ref kx), (2, .ref vx), (3, .int (kI (kb (true))))]) hx hb dJ28_put_2_23 hl (by decide) rfl (fun ls hl => ?_)
  refine lv_aloadN hx hb dJ28_put_2_25 (lv_at hl 0 rfl) ?_
  refine lv_ifnullN (tgt := 112) hx hb dJ28_put_2_27 (by decide) ?_
  refine lv_aload_n hx hb dJ28_put_2_112 rfl (lv_at hl 3 rfl) ?_
  refine kx_cr0 (va_runS (As := [.ref kx]) (rest := []) ⟨hx, hb, hml, hown, hts⟩ (m_J14_requireNonNull l D s.heap kx  ) (va_cwS 1 hts (lw_S q872 q873 q96 q874) rfl rfl rfl (by decide +kernel) ⟨Nat.le_of_ble_eq_true rfl, Nat.le_of_ble_eq_true rfl⟩) (kx_ps hK hS hB) rfl rfl hl.1 rfl (lv_room (Nat.le_of_ble_eq_true rfl)) dJ28_put_2_113 ⟨by first | exact Nat.le_of_ble_eq_true rfl | omega | (show _ ≤ _; omega) | (dsimp only [headSpec]; omega), by first | exact Nat.le_of_ble_eq_true rfl | omega | (show _ ≤ _; omega) | (dsimp only [headSpec]; omega)⟩) hS (fun z_4 locs_1 hz_3 hS_2 => ?_)
  subst z_4
  refine lv_pop hx hb dJ28_put_2_116 rfl ?_
  refine lv_aload_n hx hb dJ28_put_2_117 rfl (lv_at hl 3 rfl) ?_
  refine kx_castY hx hb hts hown q603 hK hO_kx rfl (hK.w q608 rfl) dJ28_put_2_118 ?_
  refine lv_astore (lv' := [(8, .ref kx), (7, .null), (4, .ref r0), (0, .ref mp), (1, .ref kx), (2, .ref vx), (3, .int (kI (kb (true))))]) hx hb dJ28_put_2_121 hl (by decide) rfl (fun ls hl => ?_)
  have lp_123_x_5 : ∀ (n_123 : Nat) (y : Nat) (cz : TC) (tl : TT) (tr : TT) (hZy : ZI lf rt pr ro cz (TN y tl tr) M) (hioy : tio (tpl cz (TN y tl tr)) = ioz) (hbe : ∀ a, a ∈ tbe cz → kv a < K) (haf : ∀ a, a ∈ taf cz → K < kv a) (locs : List Loc) (hS : va_S (fun q : Nat => q = mp ∨ q ∈ M ∨ s.heap.size ≤ q) s.heap s.heap locs) (hm_123 : (tio (TN y tl tr)).length < n_123) (ls : Array Slot), lv_has ls 10 [(0, .ref mp), (1, .ref kx), (2, .ref vx), (4, .ref y), (8, .ref kx)] → W p l e (headSpec (ws_ yJ28_put_2 cJ28_put_2 10 (some (.object "java/lang/Object"))) ({ frames := 3, cells := 1, slots := 6, locals := 69 } : Room)).room s m ([.ref mp, .ref kx, .ref vx, .int (kI (kb (true)))] : List Value).toArray below meth c s.heap locs (0) (0) (MQ below (kQq (fun (r : Option Nat) H' => ∃ (x : Nat) (lf2 : Nat → Option Nat) (rt2 : Nat → Option Nat) (pr2 : Nat → Option Nat) (co2 : Nat → Bool) (ro2 : Option Nat) (t2 : TT), (r = none) ∧ (kO D H' mp 15 [.null, .null, .null, va_rf (ro2), .int (kI ((sz + 1 : Nat) : Int)), .int (kI (mc + 1)), .null, .null, .null]) ∧ (kTN D H' ((x :: M)) ((kup kf x kx)) ((kup vf x vx)) lf2 rt2 pr2 co2) ∧ (kBx D H' ((x :: M)) ((kup kf x kx)) ((kup kv x K))) ∧ (ZI lf2 rt2 pr2 ro2 [] t2 (x :: M)) ∧ (∃ pre post, tio (TN r0 tl0 tr0) = pre ++ post ∧ tio t2 = pre ++ x :: post ∧ (∀ a, a ∈ pre → kv a < K) ∧ ∀ a, a ∈ post → K < kv a) ∧ (∀ a, ro2 = some a → co2 a = true) ∧ (s.heap.size ≤ x)) (fun q : Nat => q = mp ∨ q ∈ M ∨ s.heap.size ≤ q)) ([.ref mp, .ref kx, .ref vx, .int (kI (kb (true)))] : List Value).toArray s (1) (6) ((fun q : Nat => q = mp ∨ q ∈ M ∨ s.heap.size ≤ q))) (F0 m 123 ls []) := by
    intro n_123
    induction n_123 with
    | zero => intro y cz tl tr hZy hioy hbe haf locs hS hm_123; exact absurd hm_123 (Nat.not_lt_zero _)
    | succ n_123 ih_123 =>
      intro y cz tl tr hZy hioy hbe haf locs hS hm_123 ls hl
      have hyM : y ∈ M := hZy.memT (by simp [tio])
      obtain ⟨hBN_7, hN_6⟩ := hP_kTN_M y (hyM)
      obtain ⟨hbx_8, hkv1, hkv2⟩ := hP_kBx_M y hyM
      have hts9 := tso (R := fun a b => kv a < kv b) (by rw [hioy]; exact hso)
      have hcmp := i_cmp_cases K (kv y)
      have hly := hZy.2.1.1
      have hry := hZy.2.1.2.1
      refine lv_aload hx hb dJ28_put_2_123 (lv_at hl 3 rfl) ?_
      refine lv_astore (lv' := [(6, .ref y), (0, .ref mp), (1, .ref kx), (2, .ref vx), (4, .ref y), (8, .ref kx)]) hx hb dJ28_put_2_125 hl (by decide) rfl (fun ls hl => ?_)
      refine lv_aload hx hb dJ28_put_2_127 (lv_at hl 5 rfl) ?_
      refine lv_aload hx hb dJ28_put_2_129 (lv_at hl 4 rfl) ?_
      refine kx_get (v := .ref (kf y)) (C := RJ29) (T := TJ29) (N := 6) hx hb hts in_J29 hown hK hN_6 rfl 0 (by decide) q850 (fun _ h9 => h9) rfl dJ28_put_2_131 ?_
      refine kx_cFi0 (va_runF (C := RJ23) (As := [.ref (kf y)]) (rest := []) (hK.at (ci := 14) rfl) ⟨hx, hb, hml, hown, hts⟩ (m_J23_compareTo l D s.heap kx (kf y) K (kv y) hO_kx hbx_8 (by first | assumption | omega) (by first | assumption | omega)) (va_cwF (x := ({ cls := "java/lang/Comparable", name := "compareTo", desc := "(Ljava/lang/Object;)I" } : Jvm.MethodName)) 1 hts (lw_F q605 q609 q611 q111 q613) rfl rfl rfl (hK.fw (by decide)) (by decide +kernel) ⟨Nat.le_of_ble_eq_true rfl, Nat.le_of_ble_eq_true rfl⟩) (kx_pv hK hS hB (kx_rc hK hO_kx (C := RJ23) (T := TJ23) (N := 1) rfl)) rfl rfl hl.1 rfl (lv_room (Nat.le_of_ble_eq_true rfl)) dJ28_put_2_134 ⟨by first | exact Nat.le_of_ble_eq_true rfl | omega | (show _ ≤ _; omega) | (dsimp only [headSpec]; omega), by first | exact Nat.le_of_ble_eq_true rfl | omega | (show _ ≤ _; omega) | (dsimp only [headSpec]; omega)⟩) hS (fun z_12 locs_9 hz_11 hS_10 => ?_)
      subst z_12
      refine lv_istore (lv' := [(5, .int (kI (i_cmp K (kv y)))), (6, .ref y), (0, .ref mp), (1, .ref kx), (2, .ref vx), (4, .ref y), (8, .ref kx)]) hx hb dJ28_put_2_139 hl (by decide) rfl (fun ls hl => ?_)
      refine lv_iload hx hb dJ28_put_2_141 (lv_at hl 0 rfl) ?_
      refine kx_if_ge (x := i_cmp K (kv y)) (tgt := 156) hx hb dJ28_put_2_143 (by decide) (by omega) (by omega) (fun c_143_13 => ?_) (fun c_143_13 => ?_)
      · -- taken at 143
        refine lv_iload hx hb dJ28_put_2_156 (lv_at hl 0 rfl) ?_
        refine kx_if_le (x := i_cmp K (kv y)) (tgt := 171) hx hb dJ28_put_2_158 (by decide) (by omega) (by omega) (fun c_158_14 => ?_) (fun c_158_14 => ?_)
        · -- taken at 158
          exfalso; exact hnk y hyM (by omega)
        · -- not taken at 158
          rcases tr with ⟨s2, y2, u2, l2, r2⟩ | _
          · -- inner
            have hry : rt y = some y2 := hry
            refine lv_aload hx hb dJ28_put_2_161 (lv_at hl 5 rfl) ?_
            refine kx_get (v := va_rf (rt y)) (C := RJ29) (T := TJ29) (N := 6) hx hb hts in_J29 hown hK hN_6 rfl 3 (by decide) q854 (fun _ h9 => h9) rfl dJ28_put_2_163 ?_
            refine kx_eqq hx hb (b := y2) (hry) ?_
            refine lv_astore (lv' := [(4, .ref y2), (5, .int (kI (i_cmp K (kv y)))), (6, .ref y), (0, .ref mp), (1, .ref kx), (2, .ref vx), (8, .ref kx)]) hx hb dJ28_put_2_166 hl (by decide) rfl (fun ls hl => ?_)
            refine lv_goto (tgt := 196) hx hb dJ28_put_2_168 (by decide) ?_
            refine lv_aload hx hb dJ28_put_2_196 (lv_at hl 0 rfl) ?_
            refine lv_ifnonnull (tgt := 123) hx hb dJ28_put_2_198 (by decide) ?_
            exact ih_123  y2 (((false, y, tl) :: cz)) l2 r2 (hZy.dnR.nrm) (by rw [← hioy, tio_pl, tio_pl]; simp [tbe, taf, tio]) (by intro a ha; simp only [tbe, Bool.false_eq_true, if_false, List.mem_append, List.mem_singleton] at ha; rcases ha with ha | ha | ha; exact hbe a ha; (have := hts9.1 a ha; omega); (rw [ha]; omega)) (by intro a ha; simp only [taf, Bool.false_eq_true, if_false, List.nil_append] at ha; exact haf a ha) _ hS_10 (by simp only [tio, List.length_append, List.length_cons] at hm_123 ⊢; omega) ls (lv_sub hl [3, 4, 5, 0, 6] rfl)
          · -- leaf
            have hry : rt y = none := hry
            refine lv_aload hx hb dJ28_put_2_161 (lv_at hl 5 rfl) ?_
            refine kx_get (v := va_rf (rt y)) (C := RJ29) (T := TJ29) (N := 6) hx hb hts in_J29 hown hK hN_6 rfl 3 (by decide) q854 (fun _ h9 => h9) rfl dJ28_put_2_163 ?_
            refine kx_eqqN hx hb (hry) ?_
            refine lv_astoreN (lv' := [(4, .null), (5, .int (kI (i_cmp K (kv y)))), (6, .ref y), (0, .ref mp), (1, .ref kx), (2, .ref vx), (8, .ref kx)]) hx hb dJ28_put_2_166 hl (by decide) rfl (fun ls hl => ?_)
            refine lv_goto (tgt := 196) hx hb dJ28_put_2_168 (by decide) ?_
            refine lv_aloadN hx hb dJ28_put_2_196 (lv_at hl 0 rfl) ?_
            refine lv_ifnonnullN hx hb dJ28_put_2_198 ?_
            refine lv_aload_n hx hb dJ28_put_2_201 rfl (lv_at hl 3 rfl) ?_
            refine lv_aload_n hx hb dJ28_put_2_202 rfl (lv_at hl 4 rfl) ?_
            refine lv_aload_n hx hb dJ28_put_2_203 rfl (lv_at hl 5 rfl) ?_
            refine lv_aload hx hb dJ28_put_2_204 (lv_at hl 2 rfl) ?_
            refine lv_iload hx hb dJ28_put_2_206 (lv_at hl 1 rfl) ?_
            refine kx_if_ge (x := i_cmp K (kv y)) (tgt := 215) hx hb dJ28_put_2_208 (by decide) (by omega) (by omega) (fun c_208_15 => ?_) (fun c_208_15 => ?_)
            · -- taken at 208
              refine kx_iconst hx hb dJ28_put_2_215 ?_
              refine kx_cv (va_runV (As := [.ref kx, .ref vx, .ref y, .int (kI (0))]) (rest := []) ⟨hx, hb, hml, hown, hts⟩ (m_J28_addEntry_R l D s.heap mp ro sz mc ks M kf vf lf rt pr co kx vx y cz tl hO_mp hP_kTN_M hZy hbl bs_mp hmpM hmc hsz) (cwV 4 hts (lw_V q875 q877 qs10 q117 q878) rfl rfl rfl (by decide +kernel) ⟨Nat.le_of_ble_eq_true rfl, Nat.le_of_ble_eq_true rfl⟩) (kx_pv hK hS_10 hB (kx_rc hK hO_mp (C := RJ28) (T := TJ28) (N := 9) rfl)) rfl rfl hl.1 rfl (lv_room (Nat.le_of_ble_eq_true rfl)) dJ28_put_2_216 ⟨by first | exact Nat.le_of_ble_eq_true rfl | omega | (show _ ≤ _; omega) | (dsimp only [headSpec]; omega), by first | exact Nat.le_of_ble_eq_true rfl | omega | (show _ ≤ _; omega) | (dsimp only [headSpec]; omega)⟩) hS_10 (fun q _ h => by rcases h with h | h | h; exact Or.inl h; exact Or.inr (Or.inl h); exact Or.inr (Or.inr (by omega))) (fun q h => by rcases h with h | h | h; exact Or.inl h; exact Or.inr (Or.inl h); exact Or.inr (Or.inr (by omega))) (fun H_19 locs_16 hz_18 hF_20 hS_17 => ?_)
              have hzf_22 := hF_20.1
              refine W.widen (k := 1) (n := 6) (Nat.le_of_ble_eq_true rfl) (Nat.le_of_ble_eq_true rfl) ?_
              obtain ⟨x, lZ, rZ, pZ, cZ, rrZ, tZ, ho_30, ho_31, hZz, hioz, hblz, hnewz⟩ := hz_18
              have h_32 := hP_kBx_M.fr hF_20 (fun a ha h => by have h9 := (hP_kBx_M a ha).1.lt; rcases h with h | h | h; exact hbm a ha h; exact hbn a ha _ h rfl; omega)
              have h_33 := hO_kx.fr hF_20 (fun h => by have h9 := hO_kx.lt; rcases h with h | h | h; exact hkm h; exact hkn _ h rfl; omega)
              have hxM9 : x ∉ M := fun z => by have h9 := (hP_kTN_M x z).2.lt; omega
              have hBX_34 : kBx D H_19 (x :: M) (kup kf x kx) (kup kv x K) := h_32.cons hxM9 h_33 hKr
              have hfin : ∃ pre post, ioz = pre ++ post ∧ tio tZ = pre ++ x :: post ∧ (∀ a, a ∈ pre → kv a < K) ∧ ∀ a, a ∈ post → K < kv a := ⟨tbe cz ++ (tio tl ++ [y]), taf cz, by rw [← hioy, tio_pl]; simp [tio], by rw [hioz, tio_pl]; simp [tio, tbe, taf], by intro a ha; simp only [List.mem_append, List.mem_singleton] at ha; rcases ha with ha | ha | ha; exact hbe a ha; (have := hts9.1 a ha; omega); (rw [ha]; omega), haf⟩
              refine lv_null hx hb dJ28_put_2_219 ?_
              exact kx_aretq hx hb hr (by first | exact Or.inl ⟨_, rfl⟩ | exact Or.inr ⟨_, rfl⟩) hlk (none) rfl (⟨x, lZ, rZ, pZ, cZ, rrZ, tZ, by rfl, ho_30, ho_31, hBX_34, by first | assumption | rfl | omega | grind, by rw [← hIO]; exact hfin, by first | assumption | rfl | omega | grind, by first | assumption | rfl | omega | grind⟩) hS_17 dJ28_put_2_220
            · -- not taken at 208
              exfalso; omega
      · -- not taken at 143
        rcases tl with ⟨s2, y2, u2, l2, r2⟩ | _
        · -- inner
          have hly : lf y = some y2 := hly
          refine lv_aload hx hb dJ28_put_2_146 (lv_at hl 5 rfl) ?_
          refine kx_get (v := va_rf (lf y)) (C := RJ29) (T := TJ29) (N := 6) hx hb hts in_J29 hown hK hN_6 rfl 2 (by decide) q853 (fun _ h9 => h9) rfl dJ28_put_2_148 ?_
          refine kx_eqq hx hb (b := y2) (hly) ?_
          refine lv_astore (lv' := [(4, .ref y2), (5, .int (kI (i_cmp K (kv y)))), (6, .ref y), (0, .ref mp), (1, .ref kx), (2, .ref vx), (8, .ref kx)]) hx hb dJ28_put_2_151 hl (by decide) rfl (fun ls hl => ?_)
          refine lv_goto (tgt := 196) hx hb dJ28_put_2_153 (by decide) ?_
          refine lv_aload hx hb dJ28_put_2_196 (lv_at hl 0 rfl) ?_
          refine lv_ifnonnull (tgt := 123) hx hb dJ28_put_2_198 (by decide) ?_
          exact ih_123  y2 (((true, y, tr) :: cz)) l2 r2 (hZy.dnL.nrm) (by rw [← hioy, tio_pl, tio_pl]; simp [tbe, taf, tio]) (by intro a ha; simp only [tbe, if_true, List.append_nil] at ha; exact hbe a ha) (by intro a ha; simp only [taf, if_true, List.cons_append, List.mem_cons, List.mem_append] at ha; rcases ha with ha | ha | ha; (rw [ha]; omega); (have := hts9.2 a ha; omega); exact haf a ha) _ hS_10 (by simp only [tio, List.length_append, List.length_cons] at hm_123 ⊢; omega) ls (lv_sub hl [3, 4, 5, 0, 6] rfl)
        · -- leaf
          have hly : lf y = none := hly
          refine lv_aload hx hb dJ28_put_2_146 (lv_at hl 5 rfl) ?_
          refine kx_get (v := va_rf (lf y)) (C := RJ29) (T := TJ29) (N := 6) hx hb hts in_J29 hown hK hN_6 rfl 2 (by decide) q853 (fun _ h9 => h9) rfl dJ28_put_2_148 ?_
          refine kx_eqqN hx hb (hly) ?_
          refine lv_astoreN (lv' := [(4, .null), (5, .int (kI (i_cmp K (kv y)))), (6, .ref y), (0, .ref mp), (1, .ref kx), (2, .ref vx), (8, .ref kx)]) hx hb dJ28_put_2_151 hl (by decide) rfl (fun ls hl => ?_)
          refine lv_goto (tgt := 196) hx hb dJ28_put_2_153 (by decide) ?_
          refine lv_aloadN hx hb dJ28_put_2_196 (lv_at hl 0 rfl) ?_
          refine lv_ifnonnullN hx hb dJ28_put_2_198 ?_
          refine lv_aload_n hx hb dJ28_put_2_201 rfl (lv_at hl 3 rfl) ?_
          refine lv_aload_n hx hb dJ28_put_2_202 rfl (lv_at hl 4 rfl) ?_
          refine lv_aload_n hx hb dJ28_put_2_203 rfl (lv_at hl 5 rfl) ?_
          refine lv_aload hx hb dJ28_put_2_204 (lv_at hl 2 rfl) ?_
          refine lv_iload hx hb dJ28_put_2_206 (lv_at hl 1 rfl) ?_
          refine kx_if_ge (x := i_cmp K (kv y)) (tgt := 215) hx hb dJ28_put_2_208 (by decide) (by omega) (by omega) (fun c_208_35 => ?_) (fun c_208_35 => ?_)
          · -- taken at 208
            exfalso; omega
          · -- not taken at 208
            refine kx_iconst hx hb dJ28_put_2_211 ?_
            refine lv_goto (tgt := 216) hx hb dJ28_put_2_212 (by decide) ?_
            refine kx_cv (va_runV (As := [.ref kx, .ref vx, .ref y, .int (kI (1))]) (rest := []) ⟨hx, hb, hml, hown, hts⟩ (m_J28_addEntry_L l D s.heap mp ro sz mc ks M kf vf lf rt pr co kx vx y cz tr hO_mp hP_kTN_M hZy hbl bs_mp hmpM hmc hsz) (cwV 4 hts (lw_V q875 q877 qs10 q117 q878) rfl rfl rfl (by decide +kernel) ⟨Nat.le_of_ble_eq_true rfl, Nat.le_of_ble_eq_true rfl⟩) (kx_pv hK hS_10 hB (kx_rc hK hO_mp (C := RJ28) (T := TJ28) (N := 9) rfl)) rfl rfl hl.1 rfl (lv_room (Nat.le_of_ble_eq_true rfl)) dJ28_put_2_216 ⟨by first | exact Nat.le_of_ble_eq_true rfl | omega | (show _ ≤ _; omega) | (dsimp only [headSpec]; omega), by first | exact Nat.le_of_ble_eq_true rfl | omega | (show _ ≤ _; omega) | (dsimp only [headSpec]; omega)⟩) hS_10 (fun q _ h => by rcases h with h | h | h; exact Or.inl h; exact Or.inr (Or.inl h); exact Or.inr (Or.inr (by omega))) (fun q h => by rcases h with h | h | h; exact Or.inl h; exact Or.inr (Or.inl h); exact Or.inr (Or.inr (by omega))) (fun H_39 locs_36 hz_38 hF_40 hS_37 => ?_)
            have hzf_42 := hF_40.1
            refine W.widen (k := 1) (n := 6) (Nat.le_of_ble_eq_true rfl) (Nat.le_of_ble_eq_true rfl) ?_
            obtain ⟨x, lZ, rZ, pZ, cZ, rrZ, tZ, ho_50, ho_51, hZz, hioz, hblz, hnewz⟩ := hz_38
            have h_52 := hP_kBx_M.fr hF_40 (fun a ha h => by have h9 := (hP_kBx_M a ha).1.lt; rcases h with h | h | h; exact hbm a ha h; exact hbn a ha _ h rfl; omega)
            have h_53 := hO_kx.fr hF_40 (fun h => by have h9 := hO_kx.lt; rcases h with h | h | h; exact hkm h; exact hkn _ h rfl; omega)
            have hxM9 : x ∉ M := fun z => by have h9 := (hP_kTN_M x z).2.lt; omega
            have hBX_54 : kBx D H_39 (x :: M) (kup kf x kx) (kup kv x K) := h_52.cons hxM9 h_53 hKr
            have hfin : ∃ pre post, ioz = pre ++ post ∧ tio tZ = pre ++ x :: post ∧ (∀ a, a ∈ pre → kv a < K) ∧ ∀ a, a ∈ post → K < kv a := ⟨tbe cz, y :: (tio tr ++ taf cz), by rw [← hioy, tio_pl]; simp [tio], by rw [hioz, tio_pl]; simp [tio, tbe, taf], hbe, by intro a ha; simp only [List.mem_cons, List.mem_append] at ha; rcases ha with ha | ha | ha; (rw [ha]; omega); (have := hts9.2 a ha; omega); exact haf a ha⟩
            refine lv_null hx hb dJ28_put_2_219 ?_
            exact kx_aretq hx hb hr (by first | exact Or.inl ⟨_, rfl⟩ | exact Or.inr ⟨_, rfl⟩) hlk (none) rfl (⟨x, lZ, rZ, pZ, cZ, rrZ, tZ, by rfl, ho_50, ho_51, hBX_54, by first | assumption | rfl | omega | grind, by rw [← hIO]; exact hfin, by first | assumption | rfl | omega | grind, by first | assumption | rfl | omega | grind⟩) hS_37 dJ28_put_2_220
  exact lp_123_x_5 ((tio (TN r0 tl0 tr0)).length + 1) r0 (([] : TC)) tl0 tr0 (hZ) (hIO.symm) (fun a ha => by cases ha) (fun a ha => by cases ha) _ hS_2 (Nat.lt_succ_self _) ls (lv_sub hl [3, 4, 5, 2, 0] rfl)

