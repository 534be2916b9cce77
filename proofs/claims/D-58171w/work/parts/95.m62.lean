/-! MATH 62: the two worlds -/
abbrev Ky : Type := Nat × Nat × Nat × Fts
def kSo (D : kG) (H : Heap) (a : Ky × Sg) : Prop := kState D H a.1.1 a.1.2.1 a.1.2.2.1 a.2.2 a.2.1 a.1.2.2.2
def kOz (D : kG) (a : Ky × Sg) (q : Nat) : Prop := kOwn D a.1.1 a.1.2.1 a.1.2.2.1 a.1.2.2.2 a.2.1.length q
def kGd (D : kG) (H : Heap) (c0 c1 : Nat) (X : List Nat) (a : Ky × Sg) : Prop := kSo D H a ∧ LsOK a.2.1 a.2.2 ∧ StG a.2.1 ∧ ∀ q, kOz D a q → q ∉ X ∧ (q < c0 ∨ c1 ≤ q)
def kDj (D : kG) (a b : Ky × Sg) : Prop := ∀ q, kOz D a q → ¬ kOz D b q
theorem kDj.symm {D : kG} {a b : Ky × Sg} (h : kDj D a b) : kDj D b a := fun q h1 h2 => h q h2 h1
theorem kGd.fr {D : kG} (hd : kDis D) {H H1 : Heap} {c0 c1 : Nat} {X : List Nat} {a : Ky × Sg} {A : Nat → Prop} (h : kGd D H c0 c1 X a) (f : kFr A H H1) (hA : ∀ x, A x → H.size ≤ x ∨ (kTy D H x ∧ ¬ kOz D a x)) : kGd D H1 c0 c1 X a :=
  ⟨kState.fr hd h.1 f hA, h.2⟩
/-- the component -/
def kW (D : kG) (H : Heap) (c0 c1 x1 : Nat) (σ : Sg) (sn : Option Sg) (hs : List Sg) (t : List Int) : Prop := ∃ (κ : Ky) (sl hl : List (Ky × Sg)) (hi es bu vb : Nat),
  kO D H x1 0 [.ref κ.1, va_rf ((sl.map (fun a => a.1.1)).head?), .ref hi, .ref bu] ∧ kDq D H hi es (hl.map (fun a => a.1.1)) ∧ kTx D H bu vb t ∧
  (∀ q, q ∈ [x1, hi, es, bu, vb] → kBase D ≤ q ∧ (q < c0 ∨ c1 ≤ q)) ∧ es ≠ vb ∧
  (∀ a, a ∈ (κ, σ) :: (sl ++ hl) → kGd D H c0 c1 [x1, hi, es, bu, vb] a) ∧ (∀ a, a ∈ sl ++ hl → kDj D (κ, σ) a) ∧ (sl ++ hl).Pairwise (kDj D) ∧ sl.length ≤ 1 ∧ sn = (sl.map Prod.snd).head? ∧ hs = hl.map Prod.snd
theorem kW.fr {D : kG} (hd : kDis D) {H H1 : Heap} {c0 c1 x1 : Nat} {σ : Sg} {sn : Option Sg} {hs : List Sg} {t : List Int} {A : Nat → Prop} (h : kW D H c0 c1 x1 σ sn hs t) (f : kFr A H H1) (hA : ∀ x, A x → H.size ≤ x ∨ (kTy D H x ∧ c0 ≤ x ∧ x < c1)) : kW D H1 c0 c1 x1 σ sn hs t := by
  obtain ⟨κ, sl, hl, hi, es, bu, vb, h1, h2, h3, h4, h5, h6, h7⟩ := h
  have no : ∀ q, q ∈ [x1, hi, es, bu, vb] → q < H.size → ¬ A q := fun q hq hl z => by
    have := (h4 q hq).2
    rcases hA q z with y | ⟨-, y⟩ <;> omega
  have h2' : hi < H.size ∧ es < H.size := by obtain ⟨_, _, _, z1, z2, _⟩ := h2; exact ⟨z1.lt, z2.lt⟩
  have h3' : bu < H.size ∧ vb < H.size := by obtain ⟨_, _, _, z1, z2, _⟩ := h3; exact ⟨z1.lt, z2.lt⟩
  refine ⟨κ, sl, hl, hi, es, bu, vb, h1.fr f (no _ (by simp) h1.lt), h2.fr f ⟨no _ (by simp) h2'.1, no _ (by simp) h2'.2⟩, h3.fr f ⟨no _ (by simp) h3'.1, no _ (by simp) h3'.2⟩, h4, h5, fun a ha => (h6 a ha).fr hd f (fun x hx => ?_), h7⟩
  rcases hA x hx with y | ⟨y1, y2⟩
  · exact Or.inl y
  · refine Or.inr ⟨y1, fun z => ?_⟩
    have := ((h6 a ha).2.2.2 x z).2
    omega
theorem kW.ex {D : kG} (hd : kDis D) {H H1 : Heap} {c0 c1 x1 : Nat} {σ : Sg} {sn : Option Sg} {hs : List Sg} {t : List Int} (h : kW D H c0 c1 x1 σ sn hs t) (f : kEx H H1) : kW D H1 c0 c1 x1 σ sn hs t :=
  h.fr (A := fun _ => False) hd ⟨f.1, fun q hq _ => f.2 q hq⟩ (fun _ z => z.elim)
def pushK (h : List (Ky × Sg)) (x : Ky × Sg) : List (Ky × Sg) := (if h.length = 5 then h.drop 1 else h) ++ [x]
theorem pushK_L (h : List (Ky × Sg)) (x : Ky × Sg) : (pushK h x).map (fun a => a.1.1) = pushL (h.map (fun a => a.1.1)) x.1.1 := by
  unfold pushK pushL
  rw [List.map_append, List.length_map]
  split
  · rw [List.map_drop]; rfl
  · rfl
theorem pushK_H (h : List (Ky × Sg)) (x : Ky × Sg) : (pushK h x).map Prod.snd = pushH (h.map Prod.snd) x.2 := by
  unfold pushK pushH
  rw [List.map_append, List.length_map]
  split
  · rw [List.map_drop]; rfl
  · rfl
theorem pushK_mem {h : List (Ky × Sg)} {x a : Ky × Sg} (m : a ∈ pushK h x) : a ∈ h ∨ a = x := by
  unfold pushK at m
  rcases List.mem_append.mp m with z | z
  · left
    split at z
    · exact List.mem_of_mem_drop z
    · exact z
  · right; simpa using z
theorem pushK_pw {R : (Ky × Sg) → (Ky × Sg) → Prop} {sl h : List (Ky × Sg)} {x : Ky × Sg} (p : (sl ++ h).Pairwise R) (n : ∀ a, a ∈ sl ++ h → R a x) : (sl ++ pushK h x).Pairwise R := by
  unfold pushK
  have key : ∀ h2 : List (Ky × Sg), h2.Sublist h → (sl ++ (h2 ++ [x])).Pairwise R := by
    intro h2 hs
    rw [← List.append_assoc, List.pairwise_append]
    have hsub : (sl ++ h2).Sublist (sl ++ h) := List.Sublist.append (List.Sublist.refl _) hs
    refine ⟨p.sublist hsub, List.pairwise_singleton _ _, fun a ha b hb => ?_⟩
    rw [List.mem_singleton.mp hb]
    exact n a (hsub.subset ha)
  split
  · exact key _ (List.drop_sublist _ _)
  · exact key _ (List.Sublist.refl _)
section KWC
variable {D : kG} {H H1 : Heap} {c0 c1 x1 st la ea hi es bu vb : Nat} {F : Fts} {S : Ls} {gap : Int} {sl hl : List (Ky × Sg)} {t : List Int}
/-- a change: the old state is kept as a copy -/
theorem kW.change (hd : kDis D) (hxE : ¬ kBase D ≤ D.2.2.2 2) {out cr la2 ea2 ea3 : Nat} {F2 F3 : Fts} {S2 : Ls} {g2 : Int} (hO : kO D H x1 0 [.ref st, va_rf ((sl.map (fun a => a.1.1)).head?), .ref hi, .ref bu]) (hDq : kDq D H hi es (hl.map (fun a => a.1.1))) (hTx : kTx D H bu vb t) (hX : ∀ q, q ∈ [x1, hi, es, bu, vb] → kBase D ≤ q ∧ (q < c0 ∨ c1 ≤ q)) (hev : es ≠ vb)
    (hAl : ∀ a, a ∈ (((st, la, ea, F), (S, gap)) : Ky × Sg) :: (sl ++ hl) → kGd D H c0 c1 [x1, hi, es, bu, vb] a) (hDj : ∀ a, a ∈ sl ++ hl → kDj D ((st, la, ea, F), (S, gap)) a) (hPw : (sl ++ hl).Pairwise (kDj D)) (hsl : sl.length ≤ 1)
    (f : kFr (fun q => q = out ∨ kOwn D st la ea F S.length q ∨ q = hi ∨ q = es ∨ H.size ≤ q) H H1) (hto : kTy D H out) (ho : c0 ≤ out ∧ out < c1) (hc : c1 ≤ H.size)
    (hO1 : kO D H1 x1 0 [.ref st, va_rf ((sl.map (fun a => a.1.1)).head?), .ref hi, .ref bu]) (hS1 : kState D H1 st la ea3 g2 S2 F3) (hC1 : kState D H1 cr la2 ea2 gap S F2) (hQ1 : kDq D H1 hi es (pushL (hl.map (fun a => a.1.1)) cr))
    (hp1 : ∀ q, kOwn D cr la2 ea2 F2 S.length q → H.size ≤ q) (hp2 : ∀ q, kOwn D st la ea3 F3 S2.length q → kOwn D st la ea F S.length q ∨ H.size ≤ q) (hp3 : ∀ q, kOwn D cr la2 ea2 F2 S.length q → ¬ kOwn D st la ea3 F3 S2.length q) (hok2 : LsOK S2 g2) (hG2 : StG S2) :
    kW D H1 c0 c1 x1 (S2, g2) ((sl.map Prod.snd).head?) (pushH (hl.map Prod.snd) (S, gap)) t := by
  have h0 := hAl _ List.mem_cons_self
  have lq : hi < H.size ∧ es < H.size := by obtain ⟨_, _, _, z1, z2, _⟩ := hDq; exact ⟨z1.lt, z2.lt⟩
  have lt' : bu < H.size ∧ vb < H.size := by obtain ⟨_, _, _, z1, z2, _⟩ := hTx; exact ⟨z1.lt, z2.lt⟩
  have lx := hO.lt
  have tyq : kTy D H hi ∧ kTy D H es := by obtain ⟨_, _, _, z1, z2, _⟩ := hDq; exact ⟨Or.inl ⟨10, _, by decide, by decide, by decide, z1⟩, Or.inr ⟨4, _, by decide, z2⟩⟩
  have olt : ∀ a, a ∈ sl ++ hl → ∀ q, kOz D a q → q < H.size := fun a ha q hq => (hAl a (List.mem_cons_of_mem _ ha)).1.ownlt hxE hq
  have hX5 : ∀ q, q ∈ [x1, hi, es, bu, vb] → q < H.size := by
    intro q hq
    simp only [List.mem_cons, List.not_mem_nil, or_false] at hq
    omega
  have hbx : bu ≠ hi := by obtain ⟨_, _, _, z1, _⟩ := hTx; obtain ⟨_, _, _, z2, _⟩ := hDq; exact kO_ne hd z1 z2 (by decide) (by decide) (by decide)
  have hbe : bu ≠ es := by obtain ⟨_, _, _, z1, _⟩ := hTx; obtain ⟨_, _, _, _, z2, _⟩ := hDq; exact kOA_ne hd z1 z2 (by decide) (by decide)
  have hvh : hi ≠ vb := by obtain ⟨_, _, _, _, z1, _⟩ := hTx; obtain ⟨_, _, _, z2, _⟩ := hDq; exact kOA_ne hd z2 z1 (by decide) (by decide)
  have n5 : ∀ q, q = bu ∨ q = vb → ¬ (q = out ∨ kOwn D st la ea F S.length q ∨ q = hi ∨ q = es ∨ H.size ≤ q) := by
    intro q hq z
    have m5 : q ∈ [x1, hi, es, bu, vb] := by rcases hq with e | e <;> rw [e] <;> simp
    have a1 := (hX q m5).2
    have a2 := hX5 q m5
    rcases z with z | z | z | z | z
    · omega
    · exact (h0.2.2.2 q z).1 m5
    · rcases hq with e | e
      · exact hbx (e.symm.trans z)
      · exact hvh (z.symm.trans e)
    · rcases hq with e | e
      · exact hbe (e.symm.trans z)
      · exact hev (z.symm.trans e)
    · omega
  have old : ∀ a, a ∈ sl ++ hl → kGd D H1 c0 c1 [x1, hi, es, bu, vb] a := fun a ha => by
    have ga := hAl a (List.mem_cons_of_mem _ ha)
    refine ga.fr hd f (fun x hx => ?_)
    rcases hx with z | z | z | z | z
    · rw [z]; exact Or.inr ⟨hto, fun w => by have := (ga.2.2.2 _ w).2; omega⟩
    · exact Or.inr ⟨h0.1.ownty hxE z, hDj a ha x z⟩
    · rw [z]; exact Or.inr ⟨tyq.1, fun w => (ga.2.2.2 _ w).1 (by simp)⟩
    · rw [z]; exact Or.inr ⟨tyq.2, fun w => (ga.2.2.2 _ w).1 (by simp)⟩
    · exact Or.inl z
  refine ⟨(st, la, ea3, F3), sl, pushK hl ((cr, la2, ea2, F2), (S, gap)), hi, es, bu, vb, hO1, by rw [pushK_L]; exact hQ1, hTx.fr f ⟨n5 _ (Or.inl rfl), n5 _ (Or.inr rfl)⟩, hX, hev, fun a ha => ?_, fun a ha => ?_, pushK_pw hPw (fun a ha q h1 h2 => ?_), hsl, rfl, (pushK_H hl ((cr, la2, ea2, F2), (S, gap))).symm⟩
  · rcases List.mem_cons.mp ha with e | e
    · subst e
      refine ⟨hS1, hok2, hG2, fun q hq => ?_⟩
      rcases hp2 q hq with z | z
      · exact h0.2.2.2 q z
      · exact ⟨fun w => by have := hX5 q w; omega, Or.inr (by omega)⟩
    · rcases List.mem_append.mp e with w | w
      · exact old a (List.mem_append_left _ w)
      · rcases pushK_mem w with w | w
        · exact old a (List.mem_append_right _ w)
        · subst w
          exact ⟨hC1, h0.2.1, h0.2.2.1, fun q hq => ⟨fun w => by have := hX5 q w; have := hp1 q hq; omega, Or.inr (by have := hp1 q hq; omega)⟩⟩
  · have dold : ∀ b, b ∈ sl ++ hl → kDj D ((st, la, ea3, F3), (S2, g2)) b := fun b hb q h1 h2 => by
      rcases hp2 q h1 with z | z
      · exact hDj b hb q z h2
      · have := olt b hb q h2; omega
    rcases List.mem_append.mp ha with w | w
    · exact dold a (List.mem_append_left _ w)
    · rcases pushK_mem w with w | w
      · exact dold a (List.mem_append_right _ w)
      · subst w; exact fun q h1 h2 => hp3 q h2 h1
  · have a1 := olt a ha q h1
    have a2 := hp1 q h2
    omega
end KWC

