/-! MATH 63: the component's world, other changes -/
section KWD
variable {D : kG} {H H1 : Heap} {c0 c1 x1 st la ea hi es bu vb : Nat} {F : Fts} {S : Ls} {gap : Int} {sl hl : List (Ky × Sg)} {t : List Int}
theorem kW.text (hd : kDis D) (hxE : ¬ kBase D ≤ D.2.2.2 2) {out vb2 : Nat} {t2 : List Int} {κ : Ky} {σ : Sg} (hDq : kDq D H hi es (hl.map (fun a => a.1.1))) (hTx : kTx D H bu vb t) (hX : ∀ q, q ∈ [x1, hi, es, bu, vb] → kBase D ≤ q ∧ (q < c0 ∨ c1 ≤ q)) (hev : es ≠ vb)
    (hAl : ∀ a, a ∈ (κ, σ) :: (sl ++ hl) → kGd D H c0 c1 [x1, hi, es, bu, vb] a) (hDj : ∀ a, a ∈ sl ++ hl → kDj D (κ, σ) a) (hPw : (sl ++ hl).Pairwise (kDj D)) (hsl : sl.length ≤ 1) (hO : x1 < H.size) (hbs : kBase D ≤ H.size)
    (f : kFr (fun q => q = out ∨ q = bu ∨ q = vb ∨ H.size ≤ q) H H1) (hto : kTy D H out) (ho : c0 ≤ out ∧ out < c1) (hc : c1 ≤ H.size)
    (hO1 : kO D H1 x1 0 [.ref κ.1, va_rf ((sl.map (fun a => a.1.1)).head?), .ref hi, .ref bu]) (hT1 : kTx D H1 bu vb2 t2) (hvb : vb2 = vb ∨ H.size ≤ vb2) :
    kW D H1 c0 c1 x1 σ ((sl.map Prod.snd).head?) (hl.map Prod.snd) t2 := by
  have lq : hi < H.size ∧ es < H.size := by obtain ⟨_, _, _, z1, z2, _⟩ := hDq; exact ⟨z1.lt, z2.lt⟩
  have tyt : kTy D H bu ∧ kTy D H vb := by obtain ⟨_, _, _, z1, z2, _⟩ := hTx; exact ⟨Or.inl ⟨11, _, by decide, by decide, by decide, z1⟩, Or.inr ⟨1, _, by decide, z2⟩⟩
  have hbx : hi ≠ bu := by obtain ⟨_, _, _, z1, _⟩ := hTx; obtain ⟨_, _, _, z2, _⟩ := hDq; exact kO_ne hd z2 z1 (by decide) (by decide) (by decide)
  have hbe : es ≠ bu := by obtain ⟨_, _, _, z1, _⟩ := hTx; obtain ⟨_, _, _, _, z2, _⟩ := hDq; exact (kOA_ne hd z1 z2 (by decide) (by decide)).symm
  have hvh : hi ≠ vb := by obtain ⟨_, _, _, _, z1, _⟩ := hTx; obtain ⟨_, _, _, z2, _⟩ := hDq; exact kOA_ne hd z2 z1 (by decide) (by decide)
  have nq : ∀ q, (q = hi ∧ q ≠ bu ∧ q ≠ vb) ∨ (q = es ∧ q ≠ bu ∧ q ≠ vb) → ¬ (q = out ∨ q = bu ∨ q = vb ∨ H.size ≤ q) := by
    intro q hq z
    have m5 : q ∈ [x1, hi, es, bu, vb] := by rcases hq with e | e <;> rw [e.1] <;> simp
    have a1 := (hX q m5).2
    rcases z with z | z | z | z
    · omega
    · rcases hq with e | e
      · exact e.2.1 z
      · exact e.2.1 z
    · rcases hq with e | e
      · exact e.2.2 z
      · exact e.2.2 z
    · rcases hq with e | e <;> omega
  refine ⟨κ, sl, hl, hi, es, bu, vb2, hO1, hDq.fr f ⟨nq _ (Or.inl ⟨rfl, hbx, hvh⟩), nq _ (Or.inr ⟨rfl, hbe, hev⟩)⟩, hT1, fun q hq => ?_, ?_, fun a ha => ?_, hDj, hPw, hsl, rfl, rfl⟩
  · simp only [List.mem_cons, List.not_mem_nil, or_false] at hq
    rcases hq with e | e | e | e | e
    · exact hX q (by rw [e]; simp)
    · exact hX q (by rw [e]; simp)
    · exact hX q (by rw [e]; simp)
    · exact hX q (by rw [e]; simp)
    · rcases hvb with w | w
      · exact hX q (by rw [e, w]; simp)
      · exact ⟨by omega, Or.inr (by omega)⟩
  · rcases hvb with w | w
    · rw [w]; exact hev
    · omega
  · have ga := hAl a ha
    have g2 := ga.fr hd f (fun x hx => by
      rcases hx with z | z | z | z
      · rw [z]; exact Or.inr ⟨hto, fun w => by have := (ga.2.2.2 _ w).2; omega⟩
      · rw [z]; exact Or.inr ⟨tyt.1, fun w => (ga.2.2.2 _ w).1 (by simp)⟩
      · rw [z]; exact Or.inr ⟨tyt.2, fun w => (ga.2.2.2 _ w).1 (by simp)⟩
      · exact Or.inl z)
    refine ⟨g2.1, g2.2.1, g2.2.2.1, fun q hq => ⟨fun w => ?_, (ga.2.2.2 q hq).2⟩⟩
    have n1 := (ga.2.2.2 q hq).1
    have n2 := ga.1.ownlt hxE hq
    simp only [List.mem_cons, List.not_mem_nil, or_false] at n1 w
    rcases hvb with y | y
    · rw [y] at w; exact n1 w
    · rcases w with w | w | w | w | w
      · exact n1 (Or.inl w)
      · exact n1 (Or.inr (Or.inl w))
      · exact n1 (Or.inr (Or.inr (Or.inl w)))
      · exact n1 (Or.inr (Or.inr (Or.inr (Or.inl w))))
      · omega
/-- what a change beside the states leaves of them -/
theorem kGd.keep (hd : kDis D) {out : Nat} {a : Ky × Sg} {A : Nat → Prop} (hDq : kDq D H hi es (hl.map (fun a => a.1.1))) (hO : ∃ fs, kO D H x1 0 fs) (ga : kGd D H c0 c1 [x1, hi, es, bu, vb] a) (f : kFr A H H1) (hA : ∀ x, A x → x = out ∨ x = x1 ∨ x = hi ∨ x = es ∨ H.size ≤ x) (hto : kTy D H out) (ho : c0 ≤ out ∧ out < c1) : kGd D H1 c0 c1 [x1, hi, es, bu, vb] a := by
  have tyq : kTy D H hi ∧ kTy D H es := by obtain ⟨_, _, _, z1, z2, _⟩ := hDq; exact ⟨Or.inl ⟨10, _, by decide, by decide, by decide, z1⟩, Or.inr ⟨4, _, by decide, z2⟩⟩
  obtain ⟨fs, hO⟩ := hO
  refine ga.fr hd f (fun x hx => ?_)
  rcases hA x hx with z | z | z | z | z
  · rw [z]; exact Or.inr ⟨hto, fun w => by have := (ga.2.2.2 _ w).2; omega⟩
  · rw [z]; exact Or.inr ⟨Or.inl ⟨0, _, by decide, by decide, by decide, hO⟩, fun w => (ga.2.2.2 _ w).1 (by simp)⟩
  · rw [z]; exact Or.inr ⟨tyq.1, fun w => (ga.2.2.2 _ w).1 (by simp)⟩
  · rw [z]; exact Or.inr ⟨tyq.2, fun w => (ga.2.2.2 _ w).1 (by simp)⟩
  · exact Or.inl z
theorem kTx.keep (hd : kDis D) {out : Nat} {A : Nat → Prop} (hDq : kDq D H hi es (hl.map (fun a => a.1.1))) (hO : ∃ fs, kO D H x1 0 fs) (hTx : kTx D H bu vb t) (hX : ∀ q, q ∈ [x1, hi, es, bu, vb] → kBase D ≤ q ∧ (q < c0 ∨ c1 ≤ q)) (hev : es ≠ vb) (f : kFr A H H1) (hA : ∀ x, A x → x = out ∨ x = x1 ∨ x = hi ∨ x = es ∨ H.size ≤ x) (ho : c0 ≤ out ∧ out < c1) : kTx D H1 bu vb t := by
  obtain ⟨fs, hO⟩ := hO
  have hq := hTx
  obtain ⟨_, _, _, z1, z2, _⟩ := hq
  obtain ⟨_, _, _, y1, y2, _⟩ := hDq
  have e1 : bu ≠ x1 := kO_ne hd z1 hO (by decide) (by decide) (by decide)
  have e2 : bu ≠ hi := kO_ne hd z1 y1 (by decide) (by decide) (by decide)
  have e3 : bu ≠ es := kOA_ne hd z1 y2 (by decide) (by decide)
  have e4 : vb ≠ x1 := (kOA_ne hd hO z2 (by decide) (by decide)).symm
  have e5 : vb ≠ hi := (kOA_ne hd y1 z2 (by decide) (by decide)).symm
  have b1 := (hX bu (by simp)).2
  have b2 := (hX vb (by simp)).2
  have l1 := z1.lt
  have l2 := z2.lt
  exact hTx.fr f ⟨fun z => by rcases hA _ z with w | w | w | w | w <;> omega, fun z => by rcases hA _ z with w | w | w | w | w <;> omega⟩
theorem kW.undo (hd : kDis D) {out : Nat} {κ : Ky} {σ : Sg} (hO : kO D H x1 0 [.ref κ.1, va_rf ((sl.map (fun a => a.1.1)).head?), .ref hi, .ref bu]) (hDq : kDq D H hi es (hl.map (fun a => a.1.1))) (hTx : kTx D H bu vb t) (hX : ∀ q, q ∈ [x1, hi, es, bu, vb] → kBase D ≤ q ∧ (q < c0 ∨ c1 ≤ q)) (hev : es ≠ vb)
    (hAl : ∀ a, a ∈ (κ, σ) :: (sl ++ hl) → kGd D H c0 c1 [x1, hi, es, bu, vb] a) (hPw : (sl ++ hl).Pairwise (kDj D)) (hsl : sl.length ≤ 1) {h2 : List (Ky × Sg)} {κ2 : Ky} {σ2 : Sg} (hh : hl = h2 ++ [(κ2, σ2)])
    (f : kFr (fun q => q = out ∨ q = x1 ∨ q = hi ∨ q = es) H H1) (hto : kTy D H out) (ho : c0 ≤ out ∧ out < c1)
    (hO1 : kO D H1 x1 0 [.ref κ2.1, va_rf ((sl.map (fun a => a.1.1)).head?), .ref hi, .ref bu]) (hQ1 : kDq D H1 hi es (hl.map (fun a => a.1.1)).dropLast) :
    kW D H1 c0 c1 x1 σ2 ((sl.map Prod.snd).head?) (hl.map Prod.snd).dropLast t := by
  have hA : ∀ x, (fun q => q = out ∨ q = x1 ∨ q = hi ∨ q = es) x → x = out ∨ x = x1 ∨ x = hi ∨ x = es ∨ H.size ≤ x := fun x hx => by
    rcases hx with z | z | z | z
    · exact Or.inl z
    · exact Or.inr (Or.inl z)
    · exact Or.inr (Or.inr (Or.inl z))
    · exact Or.inr (Or.inr (Or.inr (Or.inl z)))
  have e1 : (hl.map (fun a => a.1.1)).dropLast = h2.map (fun a => a.1.1) := by rw [hh, List.map_append]; exact List.dropLast_concat
  have e2 : (hl.map Prod.snd).dropLast = h2.map Prod.snd := by rw [hh, List.map_append]; exact List.dropLast_concat
  rw [hh, ← List.append_assoc, List.pairwise_append] at hPw
  have hmem : ∀ a, a ∈ (κ2, σ2) :: (sl ++ h2) → a ∈ (κ, σ) :: (sl ++ hl) := by
    intro a ha
    rw [hh]
    simp only [List.mem_cons, List.mem_append, List.not_mem_nil, or_false] at ha ⊢
    rcases ha with z | z | z
    · exact Or.inr (Or.inr (Or.inr z))
    · exact Or.inr (Or.inl z)
    · exact Or.inr (Or.inr (Or.inl z))
  exact ⟨κ2, sl, h2, hi, es, bu, vb, hO1, by rw [← e1]; exact hQ1, hTx.keep hd hDq ⟨_, hO⟩ hX hev f hA ho, hX, hev, fun a ha => (hAl a (hmem a ha)).keep hd hDq ⟨_, hO⟩ f hA hto ho, fun a ha => (hPw.2.2 a ha (κ2, σ2) (by simp)).symm, hPw.1, hsl, rfl, e2⟩
theorem kW.snap (hd : kDis D) (hxE : ¬ kBase D ≤ D.2.2.2 2) {out cr la2 ea2 : Nat} {F2 : Fts} (hO : kO D H x1 0 [.ref st, va_rf ((sl.map (fun a => a.1.1)).head?), .ref hi, .ref bu]) (hDq : kDq D H hi es (hl.map (fun a => a.1.1))) (hTx : kTx D H bu vb t) (hX : ∀ q, q ∈ [x1, hi, es, bu, vb] → kBase D ≤ q ∧ (q < c0 ∨ c1 ≤ q)) (hev : es ≠ vb)
    (hAl : ∀ a, a ∈ (((st, la, ea, F), (S, gap)) : Ky × Sg) :: (sl ++ hl) → kGd D H c0 c1 [x1, hi, es, bu, vb] a) (hDj : ∀ a, a ∈ sl ++ hl → kDj D ((st, la, ea, F), (S, gap)) a) (hPw : (sl ++ hl).Pairwise (kDj D))
    (f : kFr (fun q => q = x1 ∨ H.size ≤ q) H H1) (hto : kTy D H out) (ho : c0 ≤ out ∧ out < c1) (hc : c1 ≤ H.size)
    (hO1 : kO D H1 x1 0 [.ref st, .ref cr, .ref hi, .ref bu]) (hC1 : kState D H1 cr la2 ea2 gap S F2) (hp1 : ∀ q, kOwn D cr la2 ea2 F2 S.length q → H.size ≤ q) :
    kW D H1 c0 c1 x1 (S, gap) (some (S, gap)) (hl.map Prod.snd) t := by
  have hA : ∀ x, (fun q => q = x1 ∨ H.size ≤ q) x → x = out ∨ x = x1 ∨ x = hi ∨ x = es ∨ H.size ≤ x := fun x hx => by
    rcases hx with z | z
    · exact Or.inr (Or.inl z)
    · exact Or.inr (Or.inr (Or.inr (Or.inr z)))
  have h0 := hAl _ List.mem_cons_self
  have lq : hi < H.size ∧ es < H.size := by obtain ⟨_, _, _, z1, z2, _⟩ := hDq; exact ⟨z1.lt, z2.lt⟩
  have lt' : bu < H.size ∧ vb < H.size := by obtain ⟨_, _, _, z1, z2, _⟩ := hTx; exact ⟨z1.lt, z2.lt⟩
  have lx := hO.lt
  have hqx : hi ≠ x1 ∧ es ≠ x1 := by obtain ⟨_, _, _, z1, z2, _⟩ := hDq; exact ⟨kO_ne hd z1 hO (by decide) (by decide) (by decide), (kOA_ne hd hO z2 (by decide) (by decide)).symm⟩
  have hX5 : ∀ q, q ∈ [x1, hi, es, bu, vb] → q < H.size := by
    intro q hq
    simp only [List.mem_cons, List.not_mem_nil, or_false] at hq
    omega
  have olt : ∀ a, a ∈ (((st, la, ea, F), (S, gap)) : Ky × Sg) :: (sl ++ hl) → ∀ q, kOz D a q → q < H.size := fun a ha q hq => (hAl a ha).1.ownlt hxE hq
  have hmem : ∀ a, a ∈ hl → a ∈ (((st, la, ea, F), (S, gap)) : Ky × Sg) :: (sl ++ hl) := fun a ha => List.mem_cons_of_mem _ (List.mem_append_right _ ha)
  refine ⟨(st, la, ea, F), [((cr, la2, ea2, F2), (S, gap))], hl, hi, es, bu, vb, hO1, hDq.fr f ⟨fun z => by rcases z with z | z; exact hqx.1 z; omega, fun z => by rcases z with z | z; exact hqx.2 z; omega⟩, hTx.keep hd hDq ⟨_, hO⟩ hX hev f hA ho, hX, hev, fun a ha => ?_, fun a ha => ?_, ?_, Nat.le_refl _, rfl, rfl⟩
  · rcases List.mem_cons.mp ha with e | e
    · subst e; exact h0.keep hd hDq ⟨_, hO⟩ f hA hto ho
    · rcases List.mem_append.mp e with w | w
      · have w := List.mem_singleton.mp w
        subst w
        exact ⟨hC1, h0.2.1, h0.2.2.1, fun q hq => ⟨fun w => by have := hX5 q w; have := hp1 q hq; omega, Or.inr (by have := hp1 q hq; omega)⟩⟩
      · exact (hAl a (hmem a w)).keep hd hDq ⟨_, hO⟩ f hA hto ho
  · rcases List.mem_append.mp ha with w | w
    · have w := List.mem_singleton.mp w
      subst w
      intro q h1 h2
      have := olt _ List.mem_cons_self q h1
      have := hp1 q h2
      omega
    · exact hDj a (List.mem_append_right _ w)
  · rw [List.pairwise_append]
    refine ⟨List.pairwise_singleton _ _, (List.pairwise_append.mp hPw).2.1, fun a ha b hb q h1 h2 => ?_⟩
    have w := List.mem_singleton.mp ha
    subst w
    have := olt b (hmem b hb) q h2
    have := hp1 q h1
    omega
theorem kW.restore (hd : kDis D) (hxE : ¬ kBase D ≤ D.2.2.2 2) {out cr la2 ea2 cr2 la3 ea3 sp las eas : Nat} {F2 F3 Fs : Fts} {Ss : Ls} {gaps : Int} (hO : ∃ fs, kO D H x1 0 fs) (hDq : kDq D H hi es (hl.map (fun a => a.1.1))) (hTx : kTx D H bu vb t) (hX : ∀ q, q ∈ [x1, hi, es, bu, vb] → kBase D ≤ q ∧ (q < c0 ∨ c1 ≤ q)) (hev : es ≠ vb)
    (hAl : ∀ a, a ∈ (((st, la, ea, F), (S, gap)) : Ky × Sg) :: ([((sp, las, eas, Fs), (Ss, gaps))] ++ hl) → kGd D H c0 c1 [x1, hi, es, bu, vb] a) (hPw : ([(((sp, las, eas, Fs), (Ss, gaps)) : Ky × Sg)] ++ hl).Pairwise (kDj D))
    (f : kFr (fun q => q = out ∨ q = x1 ∨ q = hi ∨ q = es ∨ H.size ≤ q) H H1) (hto : kTy D H out) (ho : c0 ≤ out ∧ out < c1) (hc : c1 ≤ H.size)
    (hO1 : kO D H1 x1 0 [.ref cr2, .ref sp, .ref hi, .ref bu]) (hC1 : kState D H1 cr la2 ea2 gap S F2) (hR1 : kState D H1 cr2 la3 ea3 gaps Ss F3) (hQ1 : kDq D H1 hi es (pushL (hl.map (fun a => a.1.1)) cr))
    (hp1 : ∀ q, kOwn D cr la2 ea2 F2 S.length q → H.size ≤ q) (hp2 : ∀ q, kOwn D cr2 la3 ea3 F3 Ss.length q → H.size ≤ q) (hp3 : ∀ q, kOwn D cr la2 ea2 F2 S.length q → ¬ kOwn D cr2 la3 ea3 F3 Ss.length q) :
    kW D H1 c0 c1 x1 (Ss, gaps) (some (Ss, gaps)) (pushH (hl.map Prod.snd) (S, gap)) t := by
  have hA : ∀ x, (fun q => q = out ∨ q = x1 ∨ q = hi ∨ q = es ∨ H.size ≤ q) x → x = out ∨ x = x1 ∨ x = hi ∨ x = es ∨ H.size ≤ x := fun x hx => hx
  have h0 := hAl _ List.mem_cons_self
  have hs := hAl ((sp, las, eas, Fs), (Ss, gaps)) (by simp)
  have lq : hi < H.size ∧ es < H.size := by obtain ⟨_, _, _, z1, z2, _⟩ := hDq; exact ⟨z1.lt, z2.lt⟩
  have lt' : bu < H.size ∧ vb < H.size := by obtain ⟨_, _, _, z1, z2, _⟩ := hTx; exact ⟨z1.lt, z2.lt⟩
  have lx : x1 < H.size := by obtain ⟨_, z⟩ := hO; exact z.lt
  have hX5 : ∀ q, q ∈ [x1, hi, es, bu, vb] → q < H.size := by
    intro q hq
    simp only [List.mem_cons, List.not_mem_nil, or_false] at hq
    omega
  have hm : ∀ a, a ∈ [(((sp, las, eas, Fs), (Ss, gaps)) : Ky × Sg)] ++ hl → a ∈ (((st, la, ea, F), (S, gap)) : Ky × Sg) :: ([((sp, las, eas, Fs), (Ss, gaps))] ++ hl) := fun a ha => List.mem_cons_of_mem _ ha
  have olt : ∀ a, a ∈ [(((sp, las, eas, Fs), (Ss, gaps)) : Ky × Sg)] ++ hl → ∀ q, kOz D a q → q < H.size := fun a ha q hq => (hAl a (hm a ha)).1.ownlt hxE hq
  have old : ∀ a, a ∈ [(((sp, las, eas, Fs), (Ss, gaps)) : Ky × Sg)] ++ hl → kGd D H1 c0 c1 [x1, hi, es, bu, vb] a := fun a ha => (hAl a (hm a ha)).keep hd hDq hO f hA hto ho
  refine ⟨(cr2, la3, ea3, F3), [((sp, las, eas, Fs), (Ss, gaps))], pushK hl ((cr, la2, ea2, F2), (S, gap)), hi, es, bu, vb, hO1, by rw [pushK_L]; exact hQ1, hTx.keep hd hDq hO hX hev f hA ho, hX, hev, fun a ha => ?_, fun a ha => ?_, pushK_pw hPw (fun a ha q h1 h2 => ?_), Nat.le_refl _, rfl, (pushK_H hl ((cr, la2, ea2, F2), (S, gap))).symm⟩
  · rcases List.mem_cons.mp ha with e | e
    · subst e
      exact ⟨hR1, hs.2.1, hs.2.2.1, fun q hq => ⟨fun w => by have := hX5 q w; have := hp2 q hq; omega, Or.inr (by have := hp2 q hq; omega)⟩⟩
    · rcases List.mem_append.mp e with w | w
      · exact old a (List.mem_append_left _ w)
      · rcases pushK_mem w with w | w
        · exact old a (List.mem_append_right _ w)
        · subst w
          exact ⟨hC1, h0.2.1, h0.2.2.1, fun q hq => ⟨fun w => by have := hX5 q w; have := hp1 q hq; omega, Or.inr (by have := hp1 q hq; omega)⟩⟩
  · have dold : ∀ b, b ∈ [(((sp, las, eas, Fs), (Ss, gaps)) : Ky × Sg)] ++ hl → kDj D ((cr2, la3, ea3, F3), (Ss, gaps)) b := fun b hb q h1 h2 => by
      have := olt b hb q h2
      have := hp2 q h1
      omega
    rcases List.mem_append.mp ha with w | w
    · exact dold a (List.mem_append_left _ w)
    · rcases pushK_mem w with w | w
      · exact dold a (List.mem_append_right _ w)
      · subst w; exact fun q h1 h2 => hp3 q h2 h1
  · have a1 := olt a ha q h1
    have a2 := hp1 q h2
    omega
end KWD

