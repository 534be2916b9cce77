/-! MATH 47: trees as fields of nodes say; rotations; the order -/
abbrev TT : Type := Std.DTreeMap.Internal.Impl Nat (fun _ => Unit)
abbrev TN (a : Nat) (l r : TT) : TT := .inner 0 a () l r
def tA : TT → Option Nat
  | .leaf => none
  | .inner _ a _ _ _ => some a
def tio : TT → List Nat
  | .leaf => []
  | .inner _ a _ l r => tio l ++ a :: tio r
/-- what the fields say of a tree -/
def tre (lf rt pr : Nat → Option Nat) : TT → Option Nat → Prop
  | .leaf, _ => True
  | .inner _ a _ l r, par => lf a = tA l ∧ rt a = tA r ∧ pr a = par ∧ tre lf rt pr l (some a) ∧ tre lf rt pr r (some a)
abbrev TC : Type := List (Bool × Nat × TT)
def tup : TC → Option Nat
  | [] => none
  | f :: _ => some f.2.1
def tcx (lf rt pr : Nat → Option Nat) : TC → Option Nat → Prop
  | [], _ => True
  | f :: c, ch => (if f.1 = true then lf f.2.1 = ch ∧ rt f.2.1 = tA f.2.2 else lf f.2.1 = tA f.2.2 ∧ rt f.2.1 = ch) ∧ pr f.2.1 = tup c ∧ tre lf rt pr f.2.2 (some f.2.1) ∧ tcx lf rt pr c (some f.2.1)
def tpl : TC → TT → TT
  | [], t => t
  | f :: c, t => tpl c (if f.1 = true then TN f.2.1 t f.2.2 else TN f.2.1 f.2.2 t)
def tbe : TC → List Nat
  | [] => []
  | f :: c => tbe c ++ (if f.1 = true then [] else tio f.2.2 ++ [f.2.1])
def taf : TC → List Nat
  | [] => []
  | f :: c => (if f.1 = true then f.2.1 :: tio f.2.2 else []) ++ taf c
def tca : TC → List Nat
  | [] => []
  | f :: c => f.2.1 :: (tio f.2.2 ++ tca c)
theorem tio_pl : ∀ (c : TC) (t : TT), tio (tpl c t) = tbe c ++ tio t ++ taf c
  | [], t => by simp [tpl, tbe, taf]
  | (b, a, s) :: c, t => by
    have h := tio_pl c (if b = true then TN a t s else TN a s t)
    rw [show tpl ((b, a, s) :: c) t = tpl c (if b = true then TN a t s else TN a s t) from rfl, h]
    cases b <;> simp [tbe, taf, tio]
theorem tA_mem {t : TT} {a : Nat} (h : tA t = some a) : a ∈ tio t := by
  cases t with
  | leaf => cases h
  | inner s b u l r => cases h; simp [tio]
theorem tre_upd {lf rt pr lf' rt' pr' : Nat → Option Nat} : ∀ {t : TT} {par : Option Nat}, tre lf rt pr t par → (∀ x, x ∈ tio t → lf' x = lf x ∧ rt' x = rt x ∧ pr' x = pr x) → tre lf' rt' pr' t par
  | .leaf, _, _, _ => trivial
  | .inner s a u l r, par, ⟨h1, h2, h3, h4, h5⟩, hx => by
    have ha := hx a (by simp [tio])
    exact ⟨ha.1.trans h1, ha.2.1.trans h2, ha.2.2.trans h3, tre_upd h4 (fun x m => hx x (by simp [tio, m])), tre_upd h5 (fun x m => hx x (by simp [tio, m]))⟩
/-- only the root's parent is another -/
theorem tre_par {lf rt pr pr' : Nat → Option Nat} {t : TT} {par par' : Option Nat} (h : tre lf rt pr t par) (hn : (tio t).Nodup) (h1 : ∀ a, tA t = some a → pr' a = par') (h2 : ∀ x, x ∈ tio t → tA t ≠ some x → pr' x = pr x) : tre lf rt pr' t par' := by
  cases t with
  | leaf => trivial
  | inner s a u l r =>
    obtain ⟨k1, k2, k3, k4, k5⟩ := h
    simp only [tio] at hn h2
    have hd := List.nodup_append.mp hn
    have hc := List.nodup_cons.mp hd.2.1
    refine ⟨k1, k2, h1 a rfl, tre_upd k4 (fun x m => ⟨rfl, rfl, h2 x (by simp [m]) (fun e => ?_)⟩), tre_upd k5 (fun x m => ⟨rfl, rfl, h2 x (by simp [m]) (fun e => ?_)⟩)⟩
    · cases e; exact hd.2.2 a m a (by simp) rfl
    · cases e; exact hc.1 m
theorem tcx_upd {lf rt pr lf' rt' pr' : Nat → Option Nat} : ∀ {c : TC} {ch : Option Nat}, tcx lf rt pr c ch → (∀ x, x ∈ tca c → lf' x = lf x ∧ rt' x = rt x ∧ pr' x = pr x) → tcx lf' rt' pr' c ch
  | [], _, _, _ => trivial
  | (b, a, s) :: c, ch, ⟨h1, h2, h3, h4⟩, hx => by
    have ha := hx a (by simp [tca])
    refine ⟨?_, ha.2.2.trans h2, tre_upd h3 (fun x m => hx x (by simp [tca, m])), tcx_upd h4 (fun x m => hx x (by simp [tca, m]))⟩
    cases b
    · exact ⟨ha.1.trans h1.1, ha.2.1.trans h1.2⟩
    · exact ⟨ha.1.trans h1.1, ha.2.1.trans h1.2⟩
theorem tca_mem : ∀ (c : TC) (x : Nat), x ∈ tca c ↔ x ∈ tbe c ∨ x ∈ taf c
  | [], x => by simp [tca, tbe, taf]
  | (b, a, s) :: c, x => by
    have h := tca_mem c x
    cases b <;> simp [tca, tbe, taf, h] <;> grind
/-- what a rotation to the left does to the fields: p's right child r goes up -/
def RotL (lf rt pr : Nat → Option Nat) (ro : Option Nat) (p r : Nat) (lf' rt' pr' : Nat → Option Nat) (ro' : Option Nat) : Prop :=
  ∃ pr1 : Nat → Option Nat, pr1 = (match lf r with | none => pr | some m => kupq pr m (some p)) ∧ pr' = kupq (kupq pr1 r (pr1 p)) p (some r) ∧
    ((pr1 p = none ∧ ro' = some r ∧ lf' = kupq lf r (some p) ∧ rt' = kupq rt p (lf r)) ∨
     ∃ g, pr1 p = some g ∧ ro' = ro ∧ ((lf g = some p ∧ lf' = kupq (kupq lf g (some r)) r (some p) ∧ rt' = kupq rt p (lf r)) ∨ (lf g ≠ some p ∧ lf' = kupq lf r (some p) ∧ rt' = kupq (kupq rt p (lf r)) g (some r))))
def RotR (lf rt pr : Nat → Option Nat) (ro : Option Nat) (p r : Nat) (lf' rt' pr' : Nat → Option Nat) (ro' : Option Nat) : Prop := RotL rt lf pr ro p r rt' lf' pr' ro'
/-- mirror images -/
def tmi : TT → TT
  | .leaf => .leaf
  | .inner s a u l r => .inner s a u (tmi r) (tmi l)
def tmc : TC → TC
  | [] => []
  | f :: c => (!f.1, f.2.1, tmi f.2.2) :: tmc c
theorem tmi_mi : ∀ t : TT, tmi (tmi t) = t
  | .leaf => rfl
  | .inner s a u l r => by simp [tmi, tmi_mi l, tmi_mi r]
theorem tmc_mc : ∀ c : TC, tmc (tmc c) = c
  | [] => rfl
  | (b, a, s) :: c => by simp [tmc, tmi_mi, tmc_mc c]
theorem tA_mi (t : TT) : tA (tmi t) = tA t := by cases t <;> rfl
theorem tup_mc (c : TC) : tup (tmc c) = tup c := by cases c <;> rfl
theorem tio_mi : ∀ t : TT, tio (tmi t) = (tio t).reverse
  | .leaf => rfl
  | .inner s a u l r => by simp [tmi, tio, tio_mi l, tio_mi r]
theorem tre_mi {lf rt pr : Nat → Option Nat} : ∀ {t : TT} {par : Option Nat}, tre lf rt pr t par → tre rt lf pr (tmi t) par
  | .leaf, _, _ => trivial
  | .inner s a u l r, par, ⟨h1, h2, h3, h4, h5⟩ => ⟨by rw [tA_mi]; exact h2, by rw [tA_mi]; exact h1, h3, tre_mi h5, tre_mi h4⟩
theorem tcx_mc {lf rt pr : Nat → Option Nat} : ∀ {c : TC} {ch : Option Nat}, tcx lf rt pr c ch → tcx rt lf pr (tmc c) ch
  | [], _, _ => trivial
  | (b, a, s) :: c, ch, ⟨h1, h2, h3, h4⟩ => by
    refine ⟨?_, by rw [tup_mc]; exact h2, tre_mi h3, tcx_mc h4⟩
    cases b
    · exact ⟨h1.2, by show _ = tA (tmi s); rw [tA_mi]; exact h1.1⟩
    · exact ⟨by show _ = tA (tmi s); rw [tA_mi]; exact h1.2, h1.1⟩
theorem tca_mc : ∀ (c : TC) (x : Nat), x ∈ tca (tmc c) ↔ x ∈ tca c
  | [], x => Iff.rfl
  | (b, a, s) :: c, x => by simp [tmc, tca, tio_mi, tca_mc c x]
/-- all cells of a tree and what is round it differ -/
def tND (c : TC) (t : TT) : Prop := (tio t).Nodup ∧ (∀ x, x ∈ tio t → x ∉ tca c) ∧ (tca c).Nodup
theorem RotL.ok {lf rt pr : Nat → Option Nat} {ro : Option Nat} {p r : Nat} {lf' rt' pr' : Nat → Option Nat} {ro' : Option Nat} (R : RotL lf rt pr ro p r lf' rt' pr' ro') {c : TC} {l m s : TT} (hc : tcx lf rt pr c (some p)) (ht : tre lf rt pr (TN p l (TN r m s)) (tup c)) (hn : tND c (TN p l (TN r m s))) (hro : ro = tA (tpl c (TN p l (TN r m s)))) :
    tcx lf' rt' pr' c (some r) ∧ tre lf' rt' pr' (TN r (TN p l m) s) (tup c) ∧ ro' = tA (tpl c (TN r (TN p l m) s)) := by
  obtain ⟨pr1, e1, e2, R⟩ := R
  obtain ⟨h1, h2, h3, h4, ⟨h5, h6, h7, h8, h9⟩⟩ := ht
  obtain ⟨n1, n2, n3⟩ := hn
  simp only [tio, List.nodup_append, List.nodup_cons, List.mem_append, List.mem_cons] at n1 n2
  have hpr : p ≠ r := by grind
  have hpm : ∀ x, tA m = some x → x ≠ p ∧ x ≠ r := fun x hx => by have := tA_mem hx; grind
  have hpr1 : ∀ x, tA m ≠ some x → pr1 x = pr x := by
    intro x hx
    rw [e1, h5]
    cases hm : tA m with
    | none => rfl
    | some y => exact kupq_ne (fun e => hx (by rw [hm, e]))
  have hpp : pr1 p = tup c := by rw [hpr1 p (fun e => (hpm p e).1 rfl)]; exact h3
  have hpx : ∀ x, x ≠ p → x ≠ r → pr' x = pr1 x := fun x a b => by rw [e2, kupq_ne a, kupq_ne b]
  have hprr : pr' r = tup c := by rw [e2, kupq_ne (Ne.symm hpr), kupq_self]; exact hpp
  have hprp : pr' p = some r := by rw [e2, kupq_self]
  -- the fields away from the place
  have key : ∀ (lf2 rt2 : Nat → Option Nat), lf2 r = some p → lf2 p = lf p → rt2 p = lf r → rt2 r = rt r → (∀ x, x ∈ tio l ∨ x ∈ tio m ∨ x ∈ tio s → lf2 x = lf x ∧ rt2 x = rt x) → tre lf2 rt2 pr' (TN r (TN p l m) s) (tup c) := by
    intro lf2 rt2 k1 k2 k3 k4 k5
    refine ⟨k1, by rw [k4]; exact h6, hprr, ⟨by rw [k2]; exact h1, by rw [k3]; exact h5, hprp, ?_, ?_⟩, ?_⟩
    · exact tre_upd h4 (fun x hx => ⟨(k5 x (Or.inl hx)).1, (k5 x (Or.inl hx)).2, by rw [hpx x (by grind) (by grind), hpr1 x (fun e => by have := tA_mem e; grind)]⟩)
    · have q := tre_upd (lf' := lf2) (rt' := rt2) (pr' := pr) h8 (fun x hx => ⟨(k5 x (Or.inr (Or.inl hx))).1, (k5 x (Or.inr (Or.inl hx))).2, rfl⟩)
      refine tre_par q (by grind) (fun a ha => ?_) (fun x hx hne => ?_)
      · rw [hpx a (hpm a ha).1 (hpm a ha).2, e1, h5, ha]; exact kupq_self _ _ _
      · rw [hpx x (by grind) (by grind), hpr1 x hne]
    · exact tre_upd h9 (fun x hx => ⟨(k5 x (Or.inr (Or.inr hx))).1, (k5 x (Or.inr (Or.inr hx))).2, by rw [hpx x (by grind) (by grind), hpr1 x (fun e => by have := tA_mem e; grind)]⟩)
  have hout : ∀ x, x ∈ tca c → pr' x = pr x := fun x hx => by
    have a1 : x ≠ p := fun e => n2 x (by simp [e]) hx
    have a2 : x ≠ r := fun e => n2 x (by simp [e]) hx
    rw [hpx x a1 a2, hpr1 x (fun e => n2 x (Or.inr (Or.inr (Or.inl (tA_mem e)))) hx)]
  rcases R with ⟨g1, g2, g3, g4⟩ | ⟨g, g1, g2, R⟩
  · have hcn : c = [] := by cases c with
      | nil => rfl
      | cons f c => rw [hpp] at g1; cases g1
    subst hcn
    refine ⟨trivial, ?_, by rw [g2]; rfl⟩
    rw [g3, g4]
    exact key _ _ (kupq_self _ _ _) (kupq_ne hpr) (kupq_self _ _ _) (kupq_ne (Ne.symm hpr)) (fun x hx => ⟨kupq_ne (by grind), kupq_ne (by grind)⟩)
  · cases c with
    | nil => rw [hpp] at g1; cases g1
    | cons f c =>
      obtain ⟨b, a, w⟩ := f
      rw [hpp] at g1
      have : a = g := Option.some.inj g1
      subst this
      obtain ⟨c1, c2, c3, c4⟩ := hc
      have hga : ∀ x, x = p ∨ x ∈ tio l ∨ x = r ∨ x ∈ tio m ∨ x ∈ tio s → x ≠ a ∧ x ∉ tio w ∧ x ∉ tca c := fun x hx => by
        have h := n2 x (by grind)
        simp only [tca, List.mem_cons, List.mem_append] at h
        grind
      simp only [tca, List.nodup_cons, List.nodup_append, List.mem_append] at n3
      have hroot : ∀ t1 t2 : TT, t1 ≠ .leaf → t2 ≠ .leaf → tA (tpl ((b, a, w) :: c) t1) = tA (tpl ((b, a, w) :: c) t2) := by
        intro t1 t2 _ _
        show tA (tpl c _) = tA (tpl c _)
        have : ∀ (c : TC) (x y : TT), tA x = tA y → tA (tpl c x) = tA (tpl c y) := by
          intro c
          induction c with
          | nil => intro x y h; exact h
          | cons f c ih => intro x y h; exact ih _ _ (by cases f.1 <;> rfl)
        exact this c _ _ (by cases b <;> rfl)
      have hro2 : ro' = tA (tpl ((b, a, w) :: c) (TN r (TN p l m) s)) := by rw [g2, hro]; exact hroot _ _ (by simp) (by simp)
      rcases R with ⟨k1, k2, k3⟩ | ⟨k1, k2, k3⟩
      · have hb : b = true := by
          cases b with
          | true => rfl
          | false =>
            have := c1.1
            rw [k1] at this
            exact absurd (tA_mem this.symm) (hga p (Or.inl rfl)).2.1
        subst hb
        have d1 := hga p (Or.inl rfl); have d2 := hga r (by simp)
        refine ⟨⟨⟨?_, ?_⟩, ?_, ?_, ?_⟩, ?_, hro2⟩
        · rw [k2, kupq_ne (Ne.symm d2.1), kupq_self]
        · rw [k3, kupq_ne (Ne.symm d1.1)]; exact c1.2
        · exact (hout a (by simp [tca])).trans c2
        · refine tre_upd c3 (fun x hx => ⟨?_, ?_, hout x (by simp [tca, hx])⟩)
          · rw [k2, kupq_ne (fun e => d2.2.1 (by rw [← e]; exact hx)), kupq_ne (fun e => n3.1 (by rw [← e]; exact Or.inl hx))]
          · rw [k3, kupq_ne (fun e => d1.2.1 (by rw [← e]; exact hx))]
        · refine tcx_upd c4 (fun x hx => ⟨?_, ?_, hout x (by simp [tca, hx])⟩)
          · rw [k2, kupq_ne (fun e => d2.2.2 (by rw [← e]; exact hx)), kupq_ne (fun e => n3.1 (by rw [← e]; exact Or.inr hx))]
          · rw [k3, kupq_ne (fun e => d1.2.2 (by rw [← e]; exact hx))]
        · rw [k2, k3]
          refine key _ _ (kupq_self _ _ _) ?_ (kupq_self _ _ _) (kupq_ne (Ne.symm hpr)) (fun x hx => ⟨?_, kupq_ne (by grind)⟩)
          · rw [kupq_ne hpr, kupq_ne d1.1]
          · rw [kupq_ne (by grind), kupq_ne (hga x (by grind)).1]
      · have hb : b = false := by
          cases b with
          | false => rfl
          | true => exact absurd c1.1 k1
        subst hb
        have d1 := hga p (Or.inl rfl); have d2 := hga r (by simp)
        refine ⟨⟨⟨?_, ?_⟩, ?_, ?_, ?_⟩, ?_, hro2⟩
        · rw [k2, kupq_ne (Ne.symm d2.1)]; exact c1.1
        · rw [k3, kupq_self]
        · exact (hout a (by simp [tca])).trans c2
        · refine tre_upd c3 (fun x hx => ⟨?_, ?_, hout x (by simp [tca, hx])⟩)
          · rw [k2, kupq_ne (fun e => d2.2.1 (by rw [← e]; exact hx))]
          · rw [k3, kupq_ne (fun e => n3.1 (by rw [← e]; exact Or.inl hx)), kupq_ne (fun e => d1.2.1 (by rw [← e]; exact hx))]
        · refine tcx_upd c4 (fun x hx => ⟨?_, ?_, hout x (by simp [tca, hx])⟩)
          · rw [k2, kupq_ne (fun e => d2.2.2 (by rw [← e]; exact hx))]
          · rw [k3, kupq_ne (fun e => n3.1 (by rw [← e]; exact Or.inr hx)), kupq_ne (fun e => d1.2.2 (by rw [← e]; exact hx))]
        · rw [k2, k3]
          refine key _ _ (kupq_self _ _ _) (kupq_ne hpr) ?_ ?_ (fun x hx => ⟨kupq_ne (by grind), ?_⟩)
          · rw [kupq_ne d1.1, kupq_self]
          · rw [kupq_ne d2.1, kupq_ne (Ne.symm hpr)]
          · rw [kupq_ne (hga x (by grind)).1, kupq_ne (by grind)]

theorem tA_tpl_mi : ∀ (c : TC) (t : TT), tA (tpl (tmc c) (tmi t)) = tA (tpl c t)
  | [], t => tA_mi t
  | (b, a, s) :: c, t => by
    have h := tA_tpl_mi c (if b = true then TN a t s else TN a s t)
    rw [show tpl ((b, a, s) :: c) t = tpl c (if b = true then TN a t s else TN a s t) from rfl, ← h]
    cases b <;> rfl
theorem tca_nd_mc : ∀ c : TC, (tca c).Nodup → (tca (tmc c)).Nodup
  | [], _ => List.nodup_nil
  | (b, a, s) :: c, h => by
    simp only [tca, List.nodup_cons, List.nodup_append, List.mem_append] at h
    show (a :: (tio (tmi s) ++ tca (tmc c))).Nodup
    rw [tio_mi]
    simp only [List.nodup_cons, List.nodup_append, List.mem_append, List.mem_reverse, tca_mc]
    refine ⟨h.1, (List.reverse_perm _).nodup_iff.mpr h.2.1, tca_nd_mc c h.2.2.1, fun x hx y hy => h.2.2.2 x hx y hy⟩
theorem tND.mi {c : TC} {t : TT} (h : tND c t) : tND (tmc c) (tmi t) := by
  obtain ⟨h1, h2, h3⟩ := h
  refine ⟨by rw [tio_mi]; exact (List.reverse_perm _).nodup_iff.mpr h1, fun x hx => ?_, tca_nd_mc c h3⟩
  rw [tio_mi, List.mem_reverse] at hx
  rw [tca_mc]
  exact h2 x hx
theorem RotR.ok {lf rt pr : Nat → Option Nat} {ro : Option Nat} {p r : Nat} {lf' rt' pr' : Nat → Option Nat} {ro' : Option Nat} (R : RotR lf rt pr ro p r lf' rt' pr' ro') {c : TC} {l m s : TT} (hc : tcx lf rt pr c (some p)) (ht : tre lf rt pr (TN p (TN r s m) l) (tup c)) (hn : tND c (TN p (TN r s m) l)) (hro : ro = tA (tpl c (TN p (TN r s m) l))) :
    tcx lf' rt' pr' c (some r) ∧ tre lf' rt' pr' (TN r s (TN p m l)) (tup c) ∧ ro' = tA (tpl c (TN r s (TN p m l))) := by
  have q := RotL.ok (c := tmc c) (l := tmi l) (m := tmi m) (s := tmi s) R (tcx_mc hc) (by rw [tup_mc]; exact tre_mi ht) hn.mi (by rw [hro]; exact (tA_tpl_mi c _).symm)
  obtain ⟨q1, q2, q3⟩ := q
  have r1 := tcx_mc q1
  have r2 := tre_mi q2
  rw [tmc_mc] at r1
  simp only [tmi, tmi_mi] at r2
  rw [tup_mc] at r2
  refine ⟨r1, r2, q3.trans ?_⟩
  have := tA_tpl_mi c (TN r s (TN p m l))
  exact this
/-- the tree that the fields show, seen from one of its places -/
def ZI (lf rt pr : Nat → Option Nat) (ro : Option Nat) (c : TC) (t : TT) (M : List Nat) : Prop := tcx lf rt pr c (tA t) ∧ tre lf rt pr t (tup c) ∧ tND c t ∧ ro = tA (tpl c t) ∧ ∀ y, y ∈ M ↔ y ∈ tio (tpl c t)
theorem ZI.up {lf rt pr : Nat → Option Nat} {ro : Option Nat} {b : Bool} {a : Nat} {w : TT} {c : TC} {t : TT} {M : List Nat} (h : ZI lf rt pr ro ((b, a, w) :: c) t M) : ZI lf rt pr ro c (if b = true then TN a t w else TN a w t) M := by
  obtain ⟨⟨h1, h2, h3, h4⟩, h5, ⟨h6, h7, h8⟩, h9, h10⟩ := h
  simp only [tca, List.nodup_cons, List.nodup_append, List.mem_append, List.mem_cons] at h7 h8
  refine ⟨by cases b <;> exact h4, ?_, ?_, h9, h10⟩
  · cases b
    · exact ⟨h1.1, h1.2, h2, h3, h5⟩
    · exact ⟨h1.1, h1.2, h2, h5, h3⟩
  · unfold tND
    cases b
    · simp only [tio, Bool.false_eq_true, if_false, List.nodup_append, List.nodup_cons, List.mem_append, List.mem_cons]
      grind
    · simp only [tio, if_true, List.nodup_append, List.nodup_cons, List.mem_append, List.mem_cons]
      grind
theorem ZI.dnL {lf rt pr : Nat → Option Nat} {ro : Option Nat} {a : Nat} {w : TT} {c : TC} {t : TT} {M : List Nat} (h : ZI lf rt pr ro c (TN a t w) M) : ZI lf rt pr ro ((true, a, w) :: c) t M := by
  obtain ⟨h1, ⟨k1, k2, k3, k4, k5⟩, ⟨h6, h7, h8⟩, h9, h10⟩ := h
  simp only [tio, List.nodup_append, List.nodup_cons, List.mem_append, List.mem_cons] at h6 h7
  refine ⟨⟨⟨k1, k2⟩, k3, k5, h1⟩, k4, ⟨h6.1, ?_, ?_⟩, h9, h10⟩
  · intro x hx; simp only [tca, List.mem_cons, List.mem_append]; grind
  · simp only [tca, List.nodup_cons, List.nodup_append, List.mem_append]; grind
theorem ZI.dnR {lf rt pr : Nat → Option Nat} {ro : Option Nat} {a : Nat} {w : TT} {c : TC} {t : TT} {M : List Nat} (h : ZI lf rt pr ro c (TN a w t) M) : ZI lf rt pr ro ((false, a, w) :: c) t M := by
  obtain ⟨h1, ⟨k1, k2, k3, k4, k5⟩, ⟨h6, h7, h8⟩, h9, h10⟩ := h
  simp only [tio, List.nodup_append, List.nodup_cons, List.mem_append, List.mem_cons] at h6 h7
  refine ⟨⟨⟨k1, k2⟩, k3, k4, h1⟩, k5, ⟨by grind, ?_, ?_⟩, h9, h10⟩
  · intro x hx; simp only [tca, List.mem_cons, List.mem_append]; grind
  · simp only [tca, List.nodup_cons, List.nodup_append, List.mem_append]; grind
theorem ZI.rotL {lf rt pr : Nat → Option Nat} {ro : Option Nat} {p r : Nat} {lf' rt' pr' : Nat → Option Nat} {ro' : Option Nat} {c : TC} {l m s : TT} {M : List Nat} (h : ZI lf rt pr ro c (TN p l (TN r m s)) M) (R : RotL lf rt pr ro p r lf' rt' pr' ro') : ZI lf' rt' pr' ro' c (TN r (TN p l m) s) M ∧ tio (tpl c (TN r (TN p l m) s)) = tio (tpl c (TN p l (TN r m s))) := by
  obtain ⟨h1, h2, h3, h4, h5⟩ := h
  have e : tio (TN r (TN p l m) s) = tio (TN p l (TN r m s)) := by simp [tio]
  have e2 : tio (tpl c (TN r (TN p l m) s)) = tio (tpl c (TN p l (TN r m s))) := by rw [tio_pl, tio_pl, e]
  obtain ⟨k1, k2, k3⟩ := R.ok h1 h2 h3 h4
  refine ⟨⟨k1, k2, ?_, k3, fun y => by rw [e2]; exact h5 y⟩, e2⟩
  unfold tND at h3 ⊢
  rw [e]; exact h3
theorem ZI.rotR {lf rt pr : Nat → Option Nat} {ro : Option Nat} {p r : Nat} {lf' rt' pr' : Nat → Option Nat} {ro' : Option Nat} {c : TC} {l m s : TT} {M : List Nat} (h : ZI lf rt pr ro c (TN p (TN r s m) l) M) (R : RotR lf rt pr ro p r lf' rt' pr' ro') : ZI lf' rt' pr' ro' c (TN r s (TN p m l)) M ∧ tio (tpl c (TN r s (TN p m l))) = tio (tpl c (TN p (TN r s m) l)) := by
  obtain ⟨h1, h2, h3, h4, h5⟩ := h
  have e : tio (TN r s (TN p m l)) = tio (TN p (TN r s m) l) := by simp [tio]
  have e2 : tio (tpl c (TN r s (TN p m l))) = tio (tpl c (TN p (TN r s m) l)) := by rw [tio_pl, tio_pl, e]
  obtain ⟨k1, k2, k3⟩ := R.ok h1 h2 h3 h4
  refine ⟨⟨k1, k2, ?_, k3, fun y => by rw [e2]; exact h5 y⟩, e2⟩
  unfold tND at h3 ⊢
  rw [e]; exact h3
/-- the root: a cell round the place, whatever stands there -/
theorem tA_pl : ∀ (f : Bool × Nat × TT) (c : TC), ∃ a, a ∈ tca (f :: c) ∧ ∀ t, tA (tpl (f :: c) t) = some a
  | (b, a, s), [] => ⟨a, by simp [tca], fun t => by cases b <;> rfl⟩
  | (b, a, s), g :: c => by
    obtain ⟨x, h1, h2⟩ := tA_pl g c
    exact ⟨x, by simp only [tca, List.mem_cons, List.mem_append] at h1 ⊢; grind, fun t => h2 _⟩
theorem ZI.memT {lf rt pr : Nat → Option Nat} {ro : Option Nat} {c : TC} {t : TT} {M : List Nat} (h : ZI lf rt pr ro c t M) {x : Nat} (hx : x ∈ tio t) : x ∈ M := (h.2.2.2.2 x).mpr (by rw [tio_pl]; simp [hx])
theorem ZI.memC {lf rt pr : Nat → Option Nat} {ro : Option Nat} {c : TC} {t : TT} {M : List Nat} (h : ZI lf rt pr ro c t M) {x : Nat} (hx : x ∈ tca c) : x ∈ M := (h.2.2.2.2 x).mpr (by rw [tio_pl]; rcases (tca_mem c x).mp hx with q | q <;> simp [q])

