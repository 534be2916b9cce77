/-! CORE 2 -/
set_option maxRecDepth 100000
def kT0 : u_T := fun _ => ("", "", "", false)
abbrev vwCl : List vw_C := [(RX1, TX1, 4), (RX2, TX2, 2), (RX3, TX3, 13), (RX4, TX4, 6), (RX5, kT0, 0), (RX6, kT0, 0), (RX7, kT0, 0), (RX8, TX8, 3), (RX9, TX9, 5), (RJ2, TJ2, 3), (RJ3, TJ3, 3), (RJ5, TJ5, 4), (RJ6, TJ6, 4), (RJ21, TJ21, 4), (RJ23, TJ23, 1), (RJ28, TJ28, 9), (RJ29, TJ29, 6), (RJ31, TJ31, 1), (RJ33, TJ33, 4)]
theorem in_X5 : ∀ w ∈ u_ws RX5 kT0 0, w ∈ lw_all := fun _ h => by cases h
theorem in_X6 : ∀ w ∈ u_ws RX6 kT0 0, w ∈ lw_all := fun _ h => by cases h
theorem in_X7 : ∀ w ∈ u_ws RX7 kT0 0, w ∈ lw_all := fun _ h => by cases h
abbrev kG : Type := va_G × (Nat → ClassId) × Nat × (Nat → Nat)
/-- array classes: 0 int, 1 byte, 2 long, 3 double, 4 Object, 5 Reason, 6 Order -/
abbrev kTys (D : kG) : List (ClassId × FieldType) := [(D.2.1 0, .int), (D.2.1 1, .byte), (D.2.1 2, .long), (D.2.1 3, .double), (D.2.1 4, .object "java/lang/Object"), (D.2.1 5, .object "ContourLabels$Reason"), (D.2.1 6, .object "ContourLabels$Order")]
abbrev kBase (D : kG) : Nat := D.2.2.1
abbrev kOld (D : kG) : Nat → Prop := fun q => D.2.2.1 ≤ q
/-- an object that was there before, of Strings and Integers: nobody writes it, of what the VM knows of it little is known -/
def kOw (D : kG) (H : Heap) (a ci : Nat) (fs : List Value) : Prop := (ci = 12 ∨ ci = 14) ∧ a < D.2.2.1 ∧ ∃ (r : vw_C) (cell : Cell), vwCl[ci]? = some r ∧ H[a]? = some cell ∧ cell.cls = D.1.1 ci ∧ cell.vm ≠ .unknown ∧ cell.vm.isStatics = false ∧ ∀ k, k < r.2.2 → cell.slots[D.1.2 ci k]? = some (vp_V fs k)
theorem kOw_no {D : kG} {H : Heap} {a ci : Nat} {fs : List Value} (z : kOw D H a ci fs) (h : (ci ≠ 12 ∧ ci ≠ 14) ∨ kBase D ≤ a) : False := by
  have z2 := z.2.1
  rcases h with h | h
  · rcases z.1 with y | y
    · exact h.1 y
    · exact h.2 y
  · exact absurd z2 (Nat.not_lt.mpr h)
def kO (D : kG) (H : Heap) (a ci : Nat) (fs : List Value) : Prop := va_at D.1 vwCl (a, .inr (ci, fs)) H ∨ kOw D H a ci fs
def kA (D : kG) (H : Heap) (a t : Nat) (x : vp_A) : Prop := va_at D.1 vwCl (a, .inl (D.2.1 t, x)) H
abbrev kAi (D : kG) (H : Heap) (a n : Nat) (g : Nat → Int) : Prop := kA D H a 0 (n, .inl (fun j => kI (g j)))
abbrev kAb (D : kG) (H : Heap) (a n : Nat) (g : Nat → Int) : Prop := kA D H a 1 (n, .inl (fun j => kI (g j)))
abbrev kAl (D : kG) (H : Heap) (a n : Nat) (g : Nat → Int64) : Prop := kA D H a 2 (n, .inr (.inl g))
abbrev kAd (D : kG) (H : Heap) (a n : Nat) (g : Nat → UInt64) : Prop := kA D H a 3 (n, .inr (.inr (.inr (.inl g))))
abbrev kAq (D : kG) (H : Heap) (a t n : Nat) (g : Nat → Option Nat) : Prop := kA D H a t (n, .inr (.inr (.inr (.inr g))))
theorem kP1 {D : va_G} {cl : List vw_C} {q : Nat × va_E} {H : Heap} (h : va_at D cl q H) : va_P D cl [q] H := by
  intro k x hx
  match k, hx with
  | 0, hx => cases hx; exact h
theorem kO.kp {D : kG} {H H1 : Heap} {a ci : Nat} {fs : List Value} (h : kO D H a ci fs) (q : H1[a]? = H[a]?) : kO D H1 a ci fs := by
  rcases h with h | ⟨h1, h2, r, ce, h3, h4, h5⟩
  · exact Or.inl (va_at.kept h q)
  · exact Or.inr ⟨h1, h2, r, ce, h3, q.trans h4, h5⟩
theorem kA.kp {D : kG} {H H1 : Heap} {a t : Nat} {x : vp_A} (h : kA D H a t x) (q : H1[a]? = H[a]?) : kA D H1 a t x := va_at.kept h q
theorem kO.lt {D : kG} {H : Heap} {a ci : Nat} {fs : List Value} (h : kO D H a ci fs) : a < H.size := by
  rcases h with h | ⟨_, _, _, _, _, h4, _⟩
  · exact va_at.lt h
  · exact (Array.getElem?_eq_some_iff.mp h4).1
theorem kA.lt {D : kG} {H : Heap} {a t : Nat} {x : vp_A} (h : kA D H a t x) : a < H.size := va_at.lt h
/-- frames between heaps -/
def kFr (A : Nat → Prop) (H H1 : Heap) : Prop := H.size ≤ H1.size ∧ ∀ q : Nat, q < H.size → ¬ A q → H1[q]? = H[q]?
def kEx (H H1 : Heap) : Prop := H.size ≤ H1.size ∧ ∀ q : Nat, q < H.size → H1[q]? = H[q]?
def kUp (H : Heap) (a : Nat) (H1 : Heap) : Prop := H1.size = H.size ∧ ∀ q : Nat, q ≠ a → H1[q]? = H[q]?
def kNO : Nat → Prop := fun _ => False
def kNW (H : Heap) : Nat → Prop := fun q => H.size ≤ q
theorem kFr.nw {H H1 : Heap} (h : kFr (kNW H) H H1) : kEx H H1 := ⟨h.1, fun q hq => h.2 q hq (Nat.not_le.mpr hq)⟩
theorem kFr.no {H H1 : Heap} (h : kFr kNO H H1) : kEx H H1 := ⟨h.1, fun q hq => h.2 q hq (fun z => z)⟩
theorem kEx.rfl {H : Heap} : kEx H H := ⟨Nat.le_refl _, fun _ _ => Eq.refl _⟩
theorem kEx.trans {H H1 H2 : Heap} (h : kEx H H1) (h2 : kEx H1 H2) : kEx H H2 := ⟨Nat.le_trans h.1 h2.1, fun q hq => (h2.2 q (Nat.lt_of_lt_of_le hq h.1)).trans (h.2 q hq)⟩
theorem kO.ex {D : kG} {H H1 : Heap} {a ci : Nat} {fs : List Value} (h : kO D H a ci fs) (q : kEx H H1) : kO D H1 a ci fs := h.kp (q.2 a h.lt)
theorem kA.ex {D : kG} {H H1 : Heap} {a t : Nat} {x : vp_A} (h : kA D H a t x) (q : kEx H H1) : kA D H1 a t x := h.kp (q.2 a h.lt)
theorem kO.up {D : kG} {H H1 : Heap} {a b ci : Nat} {fs : List Value} (h : kO D H a ci fs) (q : kUp H b H1) (n : a ≠ b) : kO D H1 a ci fs := h.kp (q.2 a n)
theorem kA.up {D : kG} {H H1 : Heap} {a b t : Nat} {x : vp_A} (h : kA D H a t x) (q : kUp H b H1) (n : a ≠ b) : kA D H1 a t x := h.kp (q.2 a n)
theorem kO.fr {D : kG} {H H1 : Heap} {A : Nat → Prop} {a ci : Nat} {fs : List Value} (h : kO D H a ci fs) (q : kFr A H H1) (n : ¬ A a) : kO D H1 a ci fs := h.kp (q.2 a h.lt n)
theorem kA.fr {D : kG} {H H1 : Heap} {A : Nat → Prop} {a t : Nat} {x : vp_A} (h : kA D H a t x) (q : kFr A H H1) (n : ¬ A a) : kA D H1 a t x := h.kp (q.2 a h.lt n)
theorem va_S.ex {H0 H : Heap} {locs : List Loc} (h : va_S (kNW H0) H0 H locs) : kEx H0 H := ⟨h.1, fun q hq => h.2.1 q hq (Nat.not_le.mpr hq)⟩
theorem va_S.toFr {A : Nat → Prop} {H0 H : Heap} {locs : List Loc} (h : va_S A H0 H locs) : kFr A H0 H := ⟨h.1, h.2.1⟩
/-- words that a method has of the tables beside lw_all -/
def kw_ok (w : Cond) : Bool := match w with
  | .fieldLinkNest .. => true
  | .methodLinkNest .. => true
  | .declares _ => true
  | .castable .. => true
  | .publicMethod _ => true
  | .privateMethod _ => true
  | .unhidden .. => true
  | _ => false
theorem kw_move {w : Cond} (g : kw_ok w = true) {s U : State} (hW : s.WarmedH U.vm) (h : va_Nw w s) : va_Nw w U := by
  cases w with
  | fieldLinkNest => exact va_Nw.warmF hW h
  | methodLinkNest => exact va_Nw.warmM hW h
  | declares => exact va_Nw.warmD hW h
  | castable => exact va_Nw.warmC hW h
  | publicMethod => exact va_tabs rfl (rfl : (s.setVm U.vm).vm = U.vm) (by rw [Cond.publicMethod_setVm hW.alike]; exact h)
  | privateMethod => exact va_tabs rfl (rfl : (s.setVm U.vm).vm = U.vm) (by rw [Cond.privateMethod_setVm hW.alike]; exact h)
  | unhidden => exact va_tabs rfl (rfl : (s.setVm U.vm).vm = U.vm) (by rw [Cond.unhidden_setVm hW.alike]; exact h)
  | _ => cases g
/-- the formatter, if there is one -/
def kFm (D : kG) : Option Nat := if D.2.2.2 6 = 0 then none else some (D.2.2.2 6 - 1)
/-- the tables' part of a world, and what statics hold -/
def kSt (D : kG) (U : State) (H : Heap) : Prop :=
  va_Z "ContourLabels" "ACROSS" "[I" (.ref (D.2.2.2 0)) (kOld D) U H ∧ va_T .int (D.2.2.2 0) 8 (fun j => .int (kI (([1, 1, 0, -1, -1, -1, 0, 1] : List Int).getD j 0))) (kOld D) U H ∧
  va_Z "ContourLabels" "DOWN" "[I" (.ref (D.2.2.2 1)) (kOld D) U H ∧ va_T .int (D.2.2.2 1) 8 (fun j => .int (kI (([0, 1, 1, 1, 0, -1, -1, -1] : List Int).getD j 0))) (kOld D) U H ∧
  va_Z "java/util/ArrayList" "DEFAULTCAPACITY_EMPTY_ELEMENTDATA" "[Ljava/lang/Object;" (.ref (D.2.2.2 2)) (kOld D) U H ∧ va_T (.object "java/lang/Object") (D.2.2.2 2) 0 (fun _ => .null) (kOld D) U H ∧
  va_Z "java/lang/String" "COMPACT_STRINGS" "Z" (.int (kI 1)) (kOld D) U H ∧ va_Z "java/lang/Integer$IntegerCache" "high" "I" (.int (kI 127)) (kOld D) U H ∧
  va_Z "java/lang/Integer$IntegerCache" "cache" "[Ljava/lang/Integer;" (.ref (D.2.2.2 3)) (kOld D) U H ∧ va_T (.object "java/lang/Integer") (D.2.2.2 3) 256 (fun j => .ref (D.2.2.2 (100 + j))) (kOld D) U H ∧
  (∀ j, j < 256 → kO D H (D.2.2.2 (100 + j)) 14 [.int (kI ((j : Int) - 128))] ∧ ¬ kOld D (D.2.2.2 (100 + j))) ∧
  vx_Zq Bundle.tN "UNASSIGNED_STACK" Bundle.steD (kOld D) U H ∧ vx_Zq Bundle.tN "SUPPRESSED_SENTINEL" Bundle.listD (kOld D) U H ∧ va_Z "jdk/internal/util/Preconditions" "SIOOBE_FORMATTER" "Ljava/util/function/BiFunction;" (va_rf (kFm D)) (kOld D) U H ∧
  va_T .byte (D.2.2.2 8) 8 (fun j => .int (kI (([110, 115, 119, 108, 117, 98, 97, 103] : List Int).getD j 0))) (kOld D) U H ∧
  ((∃ h z : Value, kO D H (D.2.2.2 7) 12 [.ref (D.2.2.2 8), .int (kI 0), h, z]) ∧ ¬ kOld D (D.2.2.2 7)) ∧
  ((∃ ce : Cell, H[D.2.2.2 500]? = some ce ∧ ce.cls = D.2.2.2 415 ∧ ce.slots = #[] ∧ ce.vm = .none) ∧ ¬ kOld D (D.2.2.2 500))
theorem kSt.moved {D : kG} {s U : State} {H : Heap} (hvm : s.vm.Alike U.vm) (h : kSt D s H) : kSt D U H := by
  obtain ⟨h1, h2, h3, h4, h5, h6, h7, h8, h9, h10, h11, h12, h13, h14, h15, h16, h17⟩ := h
  exact ⟨h1.moved hvm, h2.moved hvm, h3.moved hvm, h4.moved hvm, h5.moved hvm, h6.moved hvm, h7.moved hvm, h8.moved hvm, h9.moved hvm, h10.moved hvm, h11, h12.moved hvm, h13.moved hvm, h14.moved hvm, h15.moved hvm, h16, h17⟩
theorem kSt.kept {D : kG} {s : State} {H H1 : Heap} (h : kSt D s H) (hq : ∀ a : Nat, a < H.size → ¬ kOld D a → H1[a]? = H[a]?) : kSt D s H1 := by
  obtain ⟨h1, h2, h3, h4, h5, h6, h7, h8, h9, h10, h11, h12, h13, h14, h15, h16, h17⟩ := h
  refine ⟨h1.kept hq, h2.kept hq, h3.kept hq, h4.kept hq, h5.kept hq, h6.kept hq, h7.kept hq, h8.kept hq, h9.kept hq, h10.kept hq, fun j hj => ⟨(h11 j hj).1.kp (hq _ (h11 j hj).1.lt (h11 j hj).2), (h11 j hj).2⟩, h12.kept hq, h13.kept hq, h14.kept hq, h15.kept hq, ⟨?_, h16.2⟩, ⟨?_, h17.2⟩⟩
  · obtain ⟨hh, z, g⟩ := h16.1
    exact ⟨hh, z, g.kp (hq _ g.lt h16.2)⟩
  · obtain ⟨ce, g1, g2⟩ := h17.1
    exact ⟨ce, (hq _ (Array.getElem?_eq_some_iff.mp g1).1 h17.2).trans g1, g2⟩
/-! lambdas: the sites -/
def ls_1 : Lambda.Shape := { iface := "ContourLabels$Reason", name := "holds", sam := ({ parameters := [], returnType := (Option.some Jvm.ClassFile.FieldType.boolean) } : Jvm.ClassFile.MethodDescriptor), captured := [(Jvm.ClassFile.FieldType.object "ContourLabels$Line"), Jvm.ClassFile.FieldType.int], kind := 6, implClass := "ContourLabels$State", implName := "lambda$whyNotLabelled$5", implDesc := ({ parameters := [(Jvm.ClassFile.FieldType.object "ContourLabels$Line"), Jvm.ClassFile.FieldType.int], returnType := (Option.some Jvm.ClassFile.FieldType.boolean) } : Jvm.ClassFile.MethodDescriptor), implItf := false, inst := ({ parameters := [], returnType := (Option.some Jvm.ClassFile.FieldType.boolean) } : Jvm.ClassFile.MethodDescriptor) }
def ls_2 : Lambda.Shape := { iface := "ContourLabels$Reason", name := "holds", sam := ({ parameters := [], returnType := (Option.some Jvm.ClassFile.FieldType.boolean) } : Jvm.ClassFile.MethodDescriptor), captured := [(Jvm.ClassFile.FieldType.object "ContourLabels$Line"), Jvm.ClassFile.FieldType.int], kind := 6, implClass := "ContourLabels$State", implName := "lambda$whyNotLabelled$6", implDesc := ({ parameters := [(Jvm.ClassFile.FieldType.object "ContourLabels$Line"), Jvm.ClassFile.FieldType.int], returnType := (Option.some Jvm.ClassFile.FieldType.boolean) } : Jvm.ClassFile.MethodDescriptor), implItf := false, inst := ({ parameters := [], returnType := (Option.some Jvm.ClassFile.FieldType.boolean) } : Jvm.ClassFile.MethodDescriptor) }
def ls_3 : Lambda.Shape := { iface := "ContourLabels$Reason", name := "holds", sam := ({ parameters := [], returnType := (Option.some Jvm.ClassFile.FieldType.boolean) } : Jvm.ClassFile.MethodDescriptor), captured := [(Jvm.ClassFile.FieldType.object "ContourLabels$Line"), Jvm.ClassFile.FieldType.int], kind := 6, implClass := "ContourLabels$State", implName := "lambda$whyNotLabelled$7", implDesc := ({ parameters := [(Jvm.ClassFile.FieldType.object "ContourLabels$Line"), Jvm.ClassFile.FieldType.int], returnType := (Option.some Jvm.ClassFile.FieldType.boolean) } : Jvm.ClassFile.MethodDescriptor), implItf := false, inst := ({ parameters := [], returnType := (Option.some Jvm.ClassFile.FieldType.boolean) } : Jvm.ClassFile.MethodDescriptor) }
def ls_4 : Lambda.Shape := { iface := "ContourLabels$Reason", name := "holds", sam := ({ parameters := [], returnType := (Option.some Jvm.ClassFile.FieldType.boolean) } : Jvm.ClassFile.MethodDescriptor), captured := [(Jvm.ClassFile.FieldType.object "ContourLabels$State"), Jvm.ClassFile.FieldType.int, Jvm.ClassFile.FieldType.int], kind := 5, implClass := "ContourLabels$State", implName := "lambda$whyNotLabelled$8", implDesc := ({ parameters := [Jvm.ClassFile.FieldType.int, Jvm.ClassFile.FieldType.int], returnType := (Option.some Jvm.ClassFile.FieldType.boolean) } : Jvm.ClassFile.MethodDescriptor), implItf := false, inst := ({ parameters := [], returnType := (Option.some Jvm.ClassFile.FieldType.boolean) } : Jvm.ClassFile.MethodDescriptor) }
def ls_5 : Lambda.Shape := { iface := "ContourLabels$Order", name := "carryOut", sam := ({ parameters := [(Jvm.ClassFile.FieldType.object "ContourLabels$State")], returnType := (Option.some Jvm.ClassFile.FieldType.boolean) } : Jvm.ClassFile.MethodDescriptor), captured := [Jvm.ClassFile.FieldType.int, Jvm.ClassFile.FieldType.int], kind := 6, implClass := "ContourLabels$TextReader", implName := "lambda$beginning$1", implDesc := ({ parameters := [Jvm.ClassFile.FieldType.int, Jvm.ClassFile.FieldType.int, (Jvm.ClassFile.FieldType.object "ContourLabels$State")], returnType := (Option.some Jvm.ClassFile.FieldType.boolean) } : Jvm.ClassFile.MethodDescriptor), implItf := false, inst := ({ parameters := [(Jvm.ClassFile.FieldType.object "ContourLabels$State")], returnType := (Option.some Jvm.ClassFile.FieldType.boolean) } : Jvm.ClassFile.MethodDescriptor) }
def ls_6 : Lambda.Shape := { iface := "ContourLabels$Order", name := "carryOut", sam := ({ parameters := [(Jvm.ClassFile.FieldType.object "ContourLabels$State")], returnType := (Option.some Jvm.ClassFile.FieldType.boolean) } : Jvm.ClassFile.MethodDescriptor), captured := [Jvm.ClassFile.FieldType.int, (Jvm.ClassFile.FieldType.array Jvm.ClassFile.FieldType.int)], kind := 6, implClass := "ContourLabels$TextReader", implName := "lambda$stepping$2", implDesc := ({ parameters := [Jvm.ClassFile.FieldType.int, (Jvm.ClassFile.FieldType.array Jvm.ClassFile.FieldType.int), (Jvm.ClassFile.FieldType.object "ContourLabels$State")], returnType := (Option.some Jvm.ClassFile.FieldType.boolean) } : Jvm.ClassFile.MethodDescriptor), implItf := false, inst := ({ parameters := [(Jvm.ClassFile.FieldType.object "ContourLabels$State")], returnType := (Option.some Jvm.ClassFile.FieldType.boolean) } : Jvm.ClassFile.MethodDescriptor) }
def ls_7 : Lambda.Shape := { iface := "ContourLabels$Reason", name := "holds", sam := ({ parameters := [], returnType := (Option.some Jvm.ClassFile.FieldType.boolean) } : Jvm.ClassFile.MethodDescriptor), captured := [(Jvm.ClassFile.FieldType.object "ContourLabels$Line")], kind := 6, implClass := "ContourLabels$State", implName := "lambda$whyNotStepped$0", implDesc := ({ parameters := [(Jvm.ClassFile.FieldType.object "ContourLabels$Line")], returnType := (Option.some Jvm.ClassFile.FieldType.boolean) } : Jvm.ClassFile.MethodDescriptor), implItf := false, inst := ({ parameters := [], returnType := (Option.some Jvm.ClassFile.FieldType.boolean) } : Jvm.ClassFile.MethodDescriptor) }
def ls_8 : Lambda.Shape := { iface := "ContourLabels$Reason", name := "holds", sam := ({ parameters := [], returnType := (Option.some Jvm.ClassFile.FieldType.boolean) } : Jvm.ClassFile.MethodDescriptor), captured := [(Jvm.ClassFile.FieldType.object "ContourLabels$Line")], kind := 6, implClass := "ContourLabels$State", implName := "lambda$whyNotStepped$1", implDesc := ({ parameters := [(Jvm.ClassFile.FieldType.object "ContourLabels$Line")], returnType := (Option.some Jvm.ClassFile.FieldType.boolean) } : Jvm.ClassFile.MethodDescriptor), implItf := false, inst := ({ parameters := [], returnType := (Option.some Jvm.ClassFile.FieldType.boolean) } : Jvm.ClassFile.MethodDescriptor) }
def ls_9 : Lambda.Shape := { iface := "ContourLabels$Reason", name := "holds", sam := ({ parameters := [], returnType := (Option.some Jvm.ClassFile.FieldType.boolean) } : Jvm.ClassFile.MethodDescriptor), captured := [Jvm.ClassFile.FieldType.int], kind := 6, implClass := "ContourLabels$State", implName := "lambda$whyNotStepped$2", implDesc := ({ parameters := [Jvm.ClassFile.FieldType.int], returnType := (Option.some Jvm.ClassFile.FieldType.boolean) } : Jvm.ClassFile.MethodDescriptor), implItf := false, inst := ({ parameters := [], returnType := (Option.some Jvm.ClassFile.FieldType.boolean) } : Jvm.ClassFile.MethodDescriptor) }
def ls_10 : Lambda.Shape := { iface := "ContourLabels$Reason", name := "holds", sam := ({ parameters := [], returnType := (Option.some Jvm.ClassFile.FieldType.boolean) } : Jvm.ClassFile.MethodDescriptor), captured := [(Jvm.ClassFile.FieldType.object "ContourLabels$State"), Jvm.ClassFile.FieldType.int, (Jvm.ClassFile.FieldType.object "ContourLabels$Line")], kind := 5, implClass := "ContourLabels$State", implName := "lambda$whyNotStepped$3", implDesc := ({ parameters := [Jvm.ClassFile.FieldType.int, (Jvm.ClassFile.FieldType.object "ContourLabels$Line")], returnType := (Option.some Jvm.ClassFile.FieldType.boolean) } : Jvm.ClassFile.MethodDescriptor), implItf := false, inst := ({ parameters := [], returnType := (Option.some Jvm.ClassFile.FieldType.boolean) } : Jvm.ClassFile.MethodDescriptor) }
def ls_11 : Lambda.Shape := { iface := "ContourLabels$Reason", name := "holds", sam := ({ parameters := [], returnType := (Option.some Jvm.ClassFile.FieldType.boolean) } : Jvm.ClassFile.MethodDescriptor), captured := [(Jvm.ClassFile.FieldType.object "ContourLabels$State"), (Jvm.ClassFile.FieldType.object "ContourLabels$Line"), Jvm.ClassFile.FieldType.int], kind := 5, implClass := "ContourLabels$State", implName := "lambda$whyNotStepped$4", implDesc := ({ parameters := [(Jvm.ClassFile.FieldType.object "ContourLabels$Line"), Jvm.ClassFile.FieldType.int], returnType := (Option.some Jvm.ClassFile.FieldType.boolean) } : Jvm.ClassFile.MethodDescriptor), implItf := false, inst := ({ parameters := [], returnType := (Option.some Jvm.ClassFile.FieldType.boolean) } : Jvm.ClassFile.MethodDescriptor) }
def ls_12 : Lambda.Shape := { iface := "ContourLabels$Order", name := "carryOut", sam := ({ parameters := [(Jvm.ClassFile.FieldType.object "ContourLabels$State")], returnType := (Option.some Jvm.ClassFile.FieldType.boolean) } : Jvm.ClassFile.MethodDescriptor), captured := [Jvm.ClassFile.FieldType.int], kind := 6, implClass := "ContourLabels$TextReader", implName := "lambda$wiping$3", implDesc := ({ parameters := [Jvm.ClassFile.FieldType.int, (Jvm.ClassFile.FieldType.object "ContourLabels$State")], returnType := (Option.some Jvm.ClassFile.FieldType.boolean) } : Jvm.ClassFile.MethodDescriptor), implItf := false, inst := ({ parameters := [(Jvm.ClassFile.FieldType.object "ContourLabels$State")], returnType := (Option.some Jvm.ClassFile.FieldType.boolean) } : Jvm.ClassFile.MethodDescriptor) }
def ls_13 : Lambda.Shape := { iface := "ContourLabels$Order", name := "carryOut", sam := ({ parameters := [(Jvm.ClassFile.FieldType.object "ContourLabels$State")], returnType := (Option.some Jvm.ClassFile.FieldType.boolean) } : Jvm.ClassFile.MethodDescriptor), captured := [Jvm.ClassFile.FieldType.int, Jvm.ClassFile.FieldType.int], kind := 6, implClass := "ContourLabels$TextReader", implName := "lambda$labelling$4", implDesc := ({ parameters := [Jvm.ClassFile.FieldType.int, Jvm.ClassFile.FieldType.int, (Jvm.ClassFile.FieldType.object "ContourLabels$State")], returnType := (Option.some Jvm.ClassFile.FieldType.boolean) } : Jvm.ClassFile.MethodDescriptor), implItf := false, inst := ({ parameters := [(Jvm.ClassFile.FieldType.object "ContourLabels$State")], returnType := (Option.some Jvm.ClassFile.FieldType.boolean) } : Jvm.ClassFile.MethodDescriptor) }
def ls_14 : Lambda.Shape := { iface := "ContourLabels$Order", name := "carryOut", sam := ({ parameters := [(Jvm.ClassFile.FieldType.object "ContourLabels$State")], returnType := (Option.some Jvm.ClassFile.FieldType.boolean) } : Jvm.ClassFile.MethodDescriptor), captured := [Jvm.ClassFile.FieldType.int], kind := 6, implClass := "ContourLabels$TextReader", implName := "lambda$unlabelling$5", implDesc := ({ parameters := [Jvm.ClassFile.FieldType.int, (Jvm.ClassFile.FieldType.object "ContourLabels$State")], returnType := (Option.some Jvm.ClassFile.FieldType.boolean) } : Jvm.ClassFile.MethodDescriptor), implItf := false, inst := ({ parameters := [(Jvm.ClassFile.FieldType.object "ContourLabels$State")], returnType := (Option.some Jvm.ClassFile.FieldType.boolean) } : Jvm.ClassFile.MethodDescriptor) }
def ls_15 : Lambda.Shape := { iface := "ContourLabels$Order", name := "carryOut", sam := ({ parameters := [(Jvm.ClassFile.FieldType.object "ContourLabels$State")], returnType := (Option.some Jvm.ClassFile.FieldType.boolean) } : Jvm.ClassFile.MethodDescriptor), captured := [Jvm.ClassFile.FieldType.int], kind := 6, implClass := "ContourLabels$TextReader", implName := "lambda$labellingBest$6", implDesc := ({ parameters := [Jvm.ClassFile.FieldType.int, (Jvm.ClassFile.FieldType.object "ContourLabels$State")], returnType := (Option.some Jvm.ClassFile.FieldType.boolean) } : Jvm.ClassFile.MethodDescriptor), implItf := false, inst := ({ parameters := [(Jvm.ClassFile.FieldType.object "ContourLabels$State")], returnType := (Option.some Jvm.ClassFile.FieldType.boolean) } : Jvm.ClassFile.MethodDescriptor) }
def ls_16 : Lambda.Shape := { iface := "ContourLabels$Order", name := "carryOut", sam := ({ parameters := [(Jvm.ClassFile.FieldType.object "ContourLabels$State")], returnType := (Option.some Jvm.ClassFile.FieldType.boolean) } : Jvm.ClassFile.MethodDescriptor), captured := [], kind := 6, implClass := "ContourLabels$TextReader", implName := "lambda$order$0", implDesc := ({ parameters := [(Jvm.ClassFile.FieldType.object "ContourLabels$State")], returnType := (Option.some Jvm.ClassFile.FieldType.boolean) } : Jvm.ClassFile.MethodDescriptor), implItf := false, inst := ({ parameters := [(Jvm.ClassFile.FieldType.object "ContourLabels$State")], returnType := (Option.some Jvm.ClassFile.FieldType.boolean) } : Jvm.ClassFile.MethodDescriptor) }
def ls_17 : Lambda.Shape := { iface := "ContourLabels$Order", name := "carryOut", sam := ({ parameters := [(Jvm.ClassFile.FieldType.object "ContourLabels$State")], returnType := (Option.some Jvm.ClassFile.FieldType.boolean) } : Jvm.ClassFile.MethodDescriptor), captured := [Jvm.ClassFile.FieldType.int], kind := 6, implClass := "ContourLabels$TextReader", implName := "lambda$gapping$7", implDesc := ({ parameters := [Jvm.ClassFile.FieldType.int, (Jvm.ClassFile.FieldType.object "ContourLabels$State")], returnType := (Option.some Jvm.ClassFile.FieldType.boolean) } : Jvm.ClassFile.MethodDescriptor), implItf := false, inst := ({ parameters := [(Jvm.ClassFile.FieldType.object "ContourLabels$State")], returnType := (Option.some Jvm.ClassFile.FieldType.boolean) } : Jvm.ClassFile.MethodDescriptor) }
def kLmL : List (MethodName × Nat × Nat × Lambda.Shape) := [(⟨"ContourLabels$State", "whyNotLabelled", "(II)I"⟩, 22, 113, ls_1), (⟨"ContourLabels$State", "whyNotLabelled", "(II)I"⟩, 32, 116, ls_2), (⟨"ContourLabels$State", "whyNotLabelled", "(II)I"⟩, 42, 117, ls_3), (⟨"ContourLabels$State", "whyNotLabelled", "(II)I"⟩, 53, 118, ls_4), (⟨"ContourLabels$TextReader", "beginning", "(I)LContourLabels$Order;"⟩, 16, 97, ls_5), (⟨"ContourLabels$TextReader", "stepping", "(I)LContourLabels$Order;"⟩, 64, 100, ls_6), (⟨"ContourLabels$State", "whyNotStepped", "(II)I"⟩, 31, 70, ls_7), (⟨"ContourLabels$State", "whyNotStepped", "(II)I"⟩, 40, 74, ls_8), (⟨"ContourLabels$State", "whyNotStepped", "(II)I"⟩, 50, 75, ls_9), (⟨"ContourLabels$State", "whyNotStepped", "(II)I"⟩, 62, 78, ls_10), (⟨"ContourLabels$State", "whyNotStepped", "(II)I"⟩, 73, 81, ls_11), (⟨"ContourLabels$TextReader", "wiping", "(I)LContourLabels$Order;"⟩, 1, 103, ls_12), (⟨"ContourLabels$TextReader", "labelling", "(I)LContourLabels$Order;"⟩, 15, 105, ls_13), (⟨"ContourLabels$TextReader", "unlabelling", "(I)LContourLabels$Order;"⟩, 1, 106, ls_14), (⟨"ContourLabels$TextReader", "labellingBest", "(I)LContourLabels$Order;"⟩, 1, 107, ls_15), (⟨"ContourLabels$TextReader", "order", "()V"⟩, 225, 87, ls_16), (⟨"ContourLabels$TextReader", "gapping", "(I)LContourLabels$Order;"⟩, 1, 108, ls_17)]
def kLmAt (D : kG) (U : State) (i : Nat) (q : MethodName × Nat × Nat × Lambda.Shape) : Prop :=
  ∃ (m : MethodId) (k : Class) (cf : ClassFile) (i0 p0 : Nat) (l : Linked), U.methodNamed? q.1 = some m ∧ U.vm.classes[m.cls]? = some k ∧ k.cf = some cf ∧ Lambda.shapeOf? cf q.2.2.1 = some q.2.2.2 ∧ (k.callSites.find? fun y => y.1 == m.idx && y.2.1 == q.2.1) = some (i0, p0, l) ∧ Lambda.isMade { classPath := fun _ => none } U.vm m.cls q.2.2.2 (D.2.2.2 (400 + i)) = true ∧ U.lambdaCallable q.2.2.2 (D.2.2.2 (400 + i)) = true ∧ (if i = 15 then l = .constant (D.2.2.2 500) else l = .makes (D.2.2.2 (400 + i)))
theorem kLmAt.warm {D : kG} {s U : State} {i : Nat} {q : MethodName × Nat × Nat × Lambda.Shape} (hW : s.WarmedH U.vm) (h : kLmAt D s i q) : kLmAt D U i q := by
  obtain ⟨m, kc, cf, i0, p0, l, hm, hk, hcf, hsh, hfind, hmade, hcall, hl⟩ := h
  obtain ⟨kc', hk', he⟩ := hW.alike.2.2 _ _ hk
  refine ⟨m, kc', cf, i0, p0, l, ?_, hk', by rw [he]; exact hcf, hsh, by rw [he]; exact hfind, Lambda.isMade_warmer hW hmade, ?_, hl⟩
  · have := State.methodNamed?_setVm (s := s) hW.alike q.1
    rw [hm] at this
    exact this
  · have hA := hW.alike
    simp only [State.lambdaCallable, hA.findClass, hA.assignable, hA.superclasses, hA.declaredIn] at hcall ⊢
    exact hcall
theorem kLmAt.same {D : kG} {u U : State} {i : Nat} {q : MethodName × Nat × Nat × Lambda.Shape} (hvm : u.vm = U.vm) (h : kLmAt D u i q) : kLmAt D U i q := by
  obtain ⟨m, kc, cf, i0, p0, l, hm, hk, hcf, hsh, hfind, hmade, hcall, hl⟩ := h
  refine ⟨m, kc, cf, i0, p0, l, ?_, by rw [← hvm]; exact hk, hcf, hsh, hfind, by rw [← hvm]; exact hmade, ?_, hl⟩
  · rw [← hm]; show (State.methodNamed? _ _) = _; unfold State.methodNamed?; rw [hvm]
  · unfold State.lambdaCallable at hcall ⊢; rw [← hvm]; exact hcall
def kIfL : List MethodName := [⟨"ContourLabels$Reason", "holds", "()Z"⟩, ⟨"ContourLabels$Order", "carryOut", "(LContourLabels$State;)Z"⟩]
theorem kIfL_ok : ∀ x ∈ kIfL, x.cls ≠ "java/lang/invoke/MethodHandle" ∧ x.cls ≠ "java/lang/invoke/VarHandle" := by decide +kernel
def kIf (x : MethodName) (U : State) : Prop := (Cond.declares x).before #[] U = true ∧ (Cond.interfaceMethod x.cls x.cls x.name x.desc).before #[] U = true
theorem kIf.moved {x : MethodName} (hx : x.cls ≠ "java/lang/invoke/MethodHandle" ∧ x.cls ≠ "java/lang/invoke/VarHandle") {u U : State} (hvm : u.vm.Alike U.vm) (h : kIf x u) : kIf x U := by
  obtain ⟨h1, h2⟩ := h
  obtain ⟨r, meth, hn, -⟩ := Cond.declares_spec h1
  have tr : ∀ {c : Cond}, c.onTables = true → c.before #[] (u.setVm U.vm) = true → c.before #[] U = true := by
    intro c hc h
    have e := Cond.onTables_vm (A := #[]) (A' := #[]) (U := u) (U' := U) U.vm c hc
    have hU : U.setVm U.vm = U := rfl
    rw [hU] at e
    rw [← e]
    exact h
  exact ⟨tr rfl (by rw [Cond.declares_setVm hvm]; exact h1), tr rfl (by rw [Cond.interfaceMethod_setVm hvm (r := r) hn hx]; exact h2)⟩
def kTb (D : kG) (U : State) : Prop := vk_R "ContourLabels$TextReader" 57 "nswlubag" (D.2.2.2 7) U ∧ (∀ i q, kLmL[i]? = some q → kLmAt D U i q) ∧ ∀ x ∈ kIfL, kIf x U
theorem kTb.warm {D : kG} {s U : State} (hW : s.WarmedH U.vm) (h : kTb D s) : kTb D U := ⟨h.1.warm hW, fun i q hq => (h.2.1 i q hq).warm hW, fun x hx => (h.2.2 x hx).moved (kIfL_ok x hx) hW.alike⟩
theorem kTb.same {D : kG} {u U : State} (hvm : u.vm = U.vm) (h : kTb D u) : kTb D U := ⟨h.1.same hvm.symm, fun i q hq => (h.2.1 i q hq).same hvm, fun x hx => (h.2.2 x hx).moved (kIfL_ok x hx) (by rw [hvm]; exact Vm.Alike.refl _)⟩
/-- calls through an interface; classes that others are not -/
def kFwL : List (String × MethodName × MethodName) := [("java/util/ArrayList", ⟨"java/util/List", "size", "()I"⟩, ⟨"java/util/ArrayList", "size", "()I"⟩), ("java/util/ArrayList", ⟨"java/util/List", "get", "(I)Ljava/lang/Object;"⟩, ⟨"java/util/ArrayList", "get", "(I)Ljava/lang/Object;"⟩), ("java/util/ArrayList", ⟨"java/util/List", "add", "(Ljava/lang/Object;)Z"⟩, ⟨"java/util/ArrayList", "add", "(Ljava/lang/Object;)Z"⟩), ("java/lang/Integer", ⟨"java/lang/Comparable", "compareTo", "(Ljava/lang/Object;)I"⟩, ⟨"java/lang/Integer", "compareTo", "(Ljava/lang/Object;)I"⟩), ("ContourLabels$BestFirst", ⟨"java/util/Comparator", "compare", "(Ljava/lang/Object;Ljava/lang/Object;)I"⟩, ⟨"ContourLabels$BestFirst", "compare", "(Ljava/lang/Object;Ljava/lang/Object;)I"⟩), ("java/util/TreeMap$KeySet", ⟨"java/util/Set", "iterator", "()Ljava/util/Iterator;"⟩, ⟨"java/util/TreeMap$KeySet", "iterator", "()Ljava/util/Iterator;"⟩), ("java/util/TreeMap$KeyIterator", ⟨"java/util/Iterator", "hasNext", "()Z"⟩, ⟨"java/util/TreeMap$PrivateEntryIterator", "hasNext", "()Z"⟩), ("java/util/TreeMap$KeyIterator", ⟨"java/util/Iterator", "next", "()Ljava/lang/Object;"⟩, ⟨"java/util/TreeMap$KeyIterator", "next", "()Ljava/lang/Object;"⟩), ("ContourLabels$Closed", ⟨"ContourLabels$Ends", "last", "(LContourLabels$Line;)I"⟩, ⟨"ContourLabels$Closed", "last", "(LContourLabels$Line;)I"⟩), ("ContourLabels$Open", ⟨"ContourLabels$Ends", "last", "(LContourLabels$Line;)I"⟩, ⟨"ContourLabels$Open", "last", "(LContourLabels$Line;)I"⟩), ("ContourLabels$Closed", ⟨"ContourLabels$Ends", "bend", "(LContourLabels$Line;)I"⟩, ⟨"ContourLabels$Closed", "bend", "(LContourLabels$Line;)I"⟩), ("ContourLabels$Open", ⟨"ContourLabels$Ends", "bend", "(LContourLabels$Line;)I"⟩, ⟨"ContourLabels$Open", "bend", "(LContourLabels$Line;)I"⟩), ("java/util/ArrayList", ⟨"java/util/List", "remove", "(I)Ljava/lang/Object;"⟩, ⟨"java/util/ArrayList", "remove", "(I)Ljava/lang/Object;"⟩)]
def kNcL : List (String × String) := [("ContourLabels$Open", "ContourLabels$Closed"), ("java/lang/IllegalArgumentException", "java/lang/IndexOutOfBoundsException"), ("java/lang/IllegalStateException", "java/lang/IndexOutOfBoundsException"), ("java/lang/IllegalStateException", "java/lang/IllegalArgumentException")]
def kAoL : List String := ["java/lang/Object", "ContourLabels$Reason", "ContourLabels$Order"]
def kFwS (U : State) : Prop := (∀ q ∈ kFwL, va_Fw q.1 q.2.1 q.2.2 U) ∧ (∀ q ∈ kNcL, va_Nc q.1 q.2 U) ∧ ∀ q ∈ kAoL, va_AO q U
theorem kFwL_ok : ∀ q ∈ kFwL, q.2.1.cls ≠ "java/lang/invoke/MethodHandle" ∧ q.2.1.cls ≠ "java/lang/invoke/VarHandle" := by decide +kernel
theorem kFwS.moved {s U : State} (hvm : s.vm.Alike U.vm) (h : kFwS s) : kFwS U := ⟨fun q hq => va_Fw.moved (kFwL_ok q hq) hvm (h.1 q hq), fun q hq => (h.2.1 q hq).moved hvm, fun q hq => (h.2.2 q hq).moved hvm⟩
def kK (D : kG) (U : State) : Prop := va_K D.1 vwCl (kTys D) U ∧ (∀ w ∈ lw_tbl, kw_ok w = true → va_Nw w U) ∧ kBase D ≤ U.heap.size ∧ kSt D U U.heap ∧ kFwS U ∧ kTb D U
theorem kK.va {D : kG} {U : State} (h : kK D U) : va_K D.1 vwCl (kTys D) U := h.1
theorem kK.w {D : kG} {U : State} (h : kK D U) {w : Cond} (hw : w ∈ lw_tbl) (g : kw_ok w = true) : va_Nw w U := h.2.1 w hw g
theorem kK.size {D : kG} {U : State} (h : kK D U) : kBase D ≤ U.heap.size := h.2.2.1
theorem kK.st {D : kG} {U : State} (h : kK D U) : kSt D U U.heap := h.2.2.2.1
theorem kK.fw {D : kG} {U : State} (h : kK D U) {C : String} {x y : MethodName} (hq : (C, x, y) ∈ kFwL) : va_Fw C x y U := h.2.2.2.2.1.1 _ hq
theorem kK.nc {D : kG} {U : State} (h : kK D U) {C E : String} (hq : (C, E) ∈ kNcL) : va_Nc C E U := h.2.2.2.2.1.2.1 _ hq
theorem kK.ao {D : kG} {U : State} (h : kK D U) {C : String} (hq : C ∈ kAoL) : va_AO C U := h.2.2.2.2.1.2.2 _ hq
theorem kK.at {D : kG} {U : State} (h : kK D U) {ci : Nat} {C : String} {T : u_T} {N : Nat} (hc : vwCl[ci]? = some (C, T, N)) : ClassAt U C (D.1.1 ci) := (h.va.1 ci _ hc).2
theorem kK.sA {D : kG} {U : State} (h : kK D U) : va_Z "ContourLabels" "ACROSS" "[I" (.ref (D.2.2.2 0)) (kOld D) U U.heap := h.st.1
theorem kK.tA {D : kG} {U : State} (h : kK D U) : va_T .int (D.2.2.2 0) 8 (fun j => .int (kI (([1, 1, 0, -1, -1, -1, 0, 1] : List Int).getD j 0))) (kOld D) U U.heap := h.st.2.1
theorem kK.sD {D : kG} {U : State} (h : kK D U) : va_Z "ContourLabels" "DOWN" "[I" (.ref (D.2.2.2 1)) (kOld D) U U.heap := h.st.2.2.1
theorem kK.tD {D : kG} {U : State} (h : kK D U) : va_T .int (D.2.2.2 1) 8 (fun j => .int (kI (([0, 1, 1, 1, 0, -1, -1, -1] : List Int).getD j 0))) (kOld D) U U.heap := h.st.2.2.2.1
theorem kK.sE {D : kG} {U : State} (h : kK D U) : va_Z "java/util/ArrayList" "DEFAULTCAPACITY_EMPTY_ELEMENTDATA" "[Ljava/lang/Object;" (.ref (D.2.2.2 2)) (kOld D) U U.heap := h.st.2.2.2.2.1
theorem kK.tE {D : kG} {U : State} (h : kK D U) : va_T (.object "java/lang/Object") (D.2.2.2 2) 0 (fun _ => .null) (kOld D) U U.heap := h.st.2.2.2.2.2.1
theorem kK.sCS {D : kG} {U : State} (h : kK D U) : va_Z "java/lang/String" "COMPACT_STRINGS" "Z" (.int (kI 1)) (kOld D) U U.heap := h.st.2.2.2.2.2.2.1
theorem kK.sHi {D : kG} {U : State} (h : kK D U) : va_Z "java/lang/Integer$IntegerCache" "high" "I" (.int (kI 127)) (kOld D) U U.heap := h.st.2.2.2.2.2.2.2.1
theorem kK.sCa {D : kG} {U : State} (h : kK D U) : va_Z "java/lang/Integer$IntegerCache" "cache" "[Ljava/lang/Integer;" (.ref (D.2.2.2 3)) (kOld D) U U.heap := h.st.2.2.2.2.2.2.2.2.1
theorem kK.tCa {D : kG} {U : State} (h : kK D U) : va_T (.object "java/lang/Integer") (D.2.2.2 3) 256 (fun j => .ref (D.2.2.2 (100 + j))) (kOld D) U U.heap := h.st.2.2.2.2.2.2.2.2.2.1
theorem kK.bx {D : kG} {U : State} (h : kK D U) : ∀ j, j < 256 → kO D U.heap (D.2.2.2 (100 + j)) 14 [.int (kI ((j : Int) - 128))] ∧ ¬ kOld D (D.2.2.2 (100 + j)) := h.st.2.2.2.2.2.2.2.2.2.2.1
theorem kK.sUS {D : kG} {U : State} (h : kK D U) : vx_Zq Bundle.tN "UNASSIGNED_STACK" Bundle.steD (kOld D) U U.heap := h.st.2.2.2.2.2.2.2.2.2.2.2.1
theorem kK.sSS {D : kG} {U : State} (h : kK D U) : vx_Zq Bundle.tN "SUPPRESSED_SENTINEL" Bundle.listD (kOld D) U U.heap := h.st.2.2.2.2.2.2.2.2.2.2.2.2.1
theorem kK.sFm {D : kG} {U : State} (h : kK D U) : va_Z "jdk/internal/util/Preconditions" "SIOOBE_FORMATTER" "Ljava/util/function/BiFunction;" (va_rf (kFm D)) (kOld D) U U.heap := h.st.2.2.2.2.2.2.2.2.2.2.2.2.2.1
theorem kK.tLt {D : kG} {U : State} (h : kK D U) : va_T .byte (D.2.2.2 8) 8 (fun j => .int (kI (([110, 115, 119, 108, 117, 98, 97, 103] : List Int).getD j 0))) (kOld D) U U.heap := h.st.2.2.2.2.2.2.2.2.2.2.2.2.2.2.1
theorem kK.cLt {D : kG} {U : State} (h : kK D U) : (∃ h z : Value, kO D U.heap (D.2.2.2 7) 12 [.ref (D.2.2.2 8), .int (kI 0), h, z]) ∧ ¬ kOld D (D.2.2.2 7) := h.st.2.2.2.2.2.2.2.2.2.2.2.2.2.2.2.1
theorem kK.c0 {D : kG} {U : State} (h : kK D U) : (∃ ce : Cell, U.heap[D.2.2.2 500]? = some ce ∧ ce.cls = D.2.2.2 415 ∧ ce.slots = #[] ∧ ce.vm = .none) ∧ ¬ kOld D (D.2.2.2 500) := h.st.2.2.2.2.2.2.2.2.2.2.2.2.2.2.2.2
theorem kK.lm {D : kG} {U : State} (h : kK D U) {i : Nat} {q : MethodName × Nat × Nat × Lambda.Shape} (hq : kLmL[i]? = some q) : kLmAt D U i q := h.2.2.2.2.2.2.1 i q hq
theorem kK.ifc {D : kG} {U : State} (h : kK D U) {x : MethodName} (hx : x ∈ kIfL) : kIf x U := h.2.2.2.2.2.2.2 x hx
theorem kK.sLt {D : kG} {U : State} (h : kK D U) : vk_R "ContourLabels$TextReader" 57 "nswlubag" (D.2.2.2 7) U := h.2.2.2.2.2.1
theorem kK.moved {D : kG} {s U : State} {A : Nat → Prop} {H : Heap} (h : kK D s) (hF : kFr A s.heap H) (hB : ∀ q, A q → kBase D ≤ q) (hU : U.heap = H) (hW : s.WarmedH U.vm) : kK D U := by
  subst hU
  exact ⟨va_K.moved hW.alike h.1, fun w hw g => kw_move g hW (h.2.1 w hw g), Nat.le_trans h.2.2.1 hF.1, kSt.moved hW.alike (h.2.2.2.1.kept (fun a ha hn => hF.2 a ha (fun z => hn (hB a z)))), h.2.2.2.2.1.moved hW.alike, h.2.2.2.2.2.warm hW⟩
theorem kK.same {D : kG} {u U : State} (hvm : u.vm = U.vm) (hh : u.heap = U.heap) (h : kK D u) : kK D U := by
  have ha : u.vm.Alike U.vm := by rw [hvm]; exact Vm.Alike.refl U.vm
  exact ⟨va_K.moved ha h.1, fun w hw g => va_Nw.same (by cases w <;> first | rfl | cases g) hvm (h.2.1 w hw g), by rw [← hh]; exact h.2.2.1, by rw [← hh]; exact kSt.moved ha h.2.2.2.1, h.2.2.2.2.1.moved ha, h.2.2.2.2.2.same hvm⟩

section KX2
variable {p : Program} {l : Launch} {e : Env} {R : Room} {s : State} {m : MethodId} {args : Array Value} {below : List Frame} {meth : Method} {c : Code} {H : Heap} {locs : List Loc} {cells slots : Nat} {Q : State → Prop}
variable {cc : ByteArray} {pc : Nat} {ls : Array Slot} {rest : List Value} {D : kG} {A : Nat → Prop} {a : Nat} {H0 : Heap}
theorem kx_get (hx : p.tables.exec = Jvm.exec) (hb : c.code = cc) {own ref C : String} {T : u_T} {N ci index : Nat} (hts : ∀ w ∈ lw_all, w.before args s = true) (hin : ∀ w ∈ u_ws C T N, w ∈ lw_all) (hown : s.vm.findClass own = some m.cls) (hK : kK D s) {fs : List Value} (hO : kO D H a ci fs) (hc : vwCl[ci]? = some (C, T, N)) (k : Nat) (hk : k < N) (hlink : (Cond.fieldLink own index ref (T k).2.1 (T k).2.2.1) ∈ lw_all) (hsame : ∀ x, s.fieldFound? (T k).1 (T k).2.1 (T k).2.2.1 = some x → s.fieldFound? ref (T k).2.1 (T k).2.2.1 = some x) {v : Value} (hv : fs[k]? = some v) (d : decode cc pc = .ok (.getfield index, 3)) (kk : W p l e R s m args below meth c H locs cells slots Q (F0 m (pc + 3) ls (v :: rest))) : W p l e R s m args below meth c H locs cells slots Q (F0 m pc ls (.ref a :: rest)) := by
  rcases hO with hO | ⟨_, _, r, cell, h1, q1, q2, q3, q5, q4⟩
  · exact va_get hx hb hts hin hown hK.va (kP1 hO) 0 rfl hc k hk (hts _ hlink) hsame hv d kk
  · have hr : r = (C, T, N) := Option.some.inj (h1.symm.trans hc)
    subst hr
    obtain ⟨hS, hfc, kC, hkC, hkind⟩ := hK.va.1 ci _ hc
    obtain ⟨cf, kf, fi, f, hi, hsl⟩ := hS k hk
    refine W.getf hx hb hown (hts _ hlink) (hsame _ hi) (u_facts hfc hkC (u_lays hts hin hk) hi).1 q1 q3 (v := v) ?_ rfl rfl d kk
    rw [hsl, q4 k hk]
    simp [vp_V, hv]
theorem kx_getN (hx : p.tables.exec = Jvm.exec) (hb : c.code = cc) {own ref C : String} {T : u_T} {N ci index : Nat} (hts : ∀ w ∈ lw_all, w.before args s = true) (hin : ∀ w ∈ u_ws C T N, w ∈ lw_all) (hown : s.vm.findClass own = some m.cls) (hK : kK D s) {fs : List Value} (hO : kO D H a ci fs) (hc : vwCl[ci]? = some (C, T, N)) (k : Nat) (hk : k < N) {host : String} (hlink : va_Nw (Cond.fieldLinkNest own index ref (T k).2.1 (T k).2.2.1 host) s) (hsame : ∀ x, s.fieldFound? (T k).1 (T k).2.1 (T k).2.2.1 = some x → s.fieldFound? ref (T k).2.1 (T k).2.2.1 = some x) {v : Value} (hv : fs[k]? = some v) (d : decode cc pc = .ok (.getfield index, 3)) (kk : W p l e R s m args below meth c H locs cells slots Q (F0 m (pc + 3) ls (v :: rest))) : W p l e R s m args below meth c H locs cells slots Q (F0 m pc ls (.ref a :: rest)) := by
  rcases hO with hO | ⟨_, _, r, cell, h1, q1, q2, q3, q5, q4⟩
  · exact va_getN hx hb hts hin hown hK.va (kP1 hO) 0 rfl hc k hk (va_Nw.use rfl hlink) hsame hv d kk
  · have hr : r = (C, T, N) := Option.some.inj (h1.symm.trans hc)
    subst hr
    obtain ⟨hS, hfc, kC, hkC, hkind⟩ := hK.va.1 ci _ hc
    obtain ⟨cf, kf, fi, f, hi, hsl⟩ := hS k hk
    refine va_Wgetf hx hb hown (va_Nw.use rfl hlink) (hsame _ hi) (u_facts hfc hkC (u_lays hts hin hk) hi).1 q1 q3 (v := v) ?_ rfl rfl d kk
    rw [hsl, q4 k hk]
    simp [vp_V, hv]
theorem kx_put (hx : p.tables.exec = Jvm.exec) (hb : c.code = cc) {own ref C : String} {T : u_T} {N ci index : Nat} (hts : ∀ w ∈ lw_all, w.before args s = true) (hin : ∀ w ∈ u_ws C T N, w ∈ lw_all) (hown : s.vm.findClass own = some m.cls) (hK : kK D s) {fs : List Value} (hO : kO D H a ci fs) (hc : vwCl[ci]? = some (C, T, N)) (k : Nat) (hk : k < N) (ty0 : Nat → FieldType) (hty : ∀ k, k < N → parseFieldDescriptor (T k).2.2.1 = some (ty0 k)) (hnm : ∀ a, a < N → ∀ b, b < N → a ≠ b → (T a).2.1 ≠ (T b).2.1) (hS0 : va_S A H0 H locs) (hAa : A a) (hlink : (Cond.fieldLink own index ref (T k).2.1 (T k).2.2.1) ∈ lw_all) (hsame : ∀ x, s.fieldFound? (T k).1 (T k).2.1 (T k).2.2.1 = some x → s.fieldFound? ref (T k).2.1 (T k).2.2.1 = some x) (hfin : (T k).2.2.2 = false) {ty : FieldType} {v : Value} (hd : ty0 k = ty) (hn : narrow ty v = v) (hfit : fits ty v = true) (hl : k < fs.length) (d : decode cc pc = .ok (.putfield index, 3)) (kk : ∀ (H1 : Heap) (locs1 : List Loc), kO D H1 a ci (fs.set k v) → kUp H a H1 → va_S A H0 H1 locs1 → W p l e R s m args below meth c H1 locs1 cells slots Q (F0 m (pc + 3) ls rest)) (hci : (ci ≠ 12 ∧ ci ≠ 14) ∨ kBase D ≤ a := by first | exact Or.inl (by decide) | exact Or.inr (by assumption)) : W p l e R s m args below meth c H locs cells slots Q (F0 m pc ls (v :: .ref a :: rest)) := by
  have hty1 : parseFieldDescriptor (T k).2.2.1 = some ty := by rw [← hd]; exact hty k hk
  have hap := va_apart (own := own) hts hin ty0 hty hnm hK.va hc
  have hO : va_at D.1 vwCl (a, .inr (ci, fs)) H := hO.resolve_right (fun z => kOw_no z hci)
  obtain ⟨r, h1, cell, q1, q2, q3, q4⟩ := hO
  have hr : r = (C, T, N) := Option.some.inj (h1.symm.trans hc)
  subst hr
  obtain ⟨hS, hfc, kC, hkC, hkind⟩ := hK.va.1 ci _ hc
  obtain ⟨cf, kf, fi, f, hi, hsl⟩ := hS k hk
  have hlay := hts _ (hin _ (u_in_lay hk))
  unfold u_lay at hlay
  rw [if_neg (by rw [hfin]; decide)] at hlay
  have hst := (u_facts hfc hkC (u_lays hts hin hk) hi).1
  have h6 := u_store hfc hkC hkind hlay hi hty1 hn hfit
  refine W.putK hx hb (f := f) ⟨hown, hts _ hlink, ⟨_, _, _, hsame _ hi⟩, hst⟩ (by rw [q2]; exact h6) q1 q3 (by rw [hsl]; exact k2_hasslot (q4 k hk)) rfl rfl d fun H' e1 e2 e3 => ?_
  rw [hsl] at e1
  exact kk H' _ (Or.inl ⟨_, hc, t_OB.to (V := updV (vp_V fs) k v) ⟨_, e1, q2, q3, t_set q4 hap hk v⟩ (fun j _ => vp_updV_set hl v j)⟩) ⟨e2, e3⟩ (hS0.put e2 e3 hAa)
theorem kx_putN (hx : p.tables.exec = Jvm.exec) (hb : c.code = cc) {own ref C : String} {T : u_T} {N ci index : Nat} (hts : ∀ w ∈ lw_all, w.before args s = true) (hin : ∀ w ∈ u_ws C T N, w ∈ lw_all) (hown : s.vm.findClass own = some m.cls) (hK : kK D s) {fs : List Value} (hO : kO D H a ci fs) (hc : vwCl[ci]? = some (C, T, N)) (k : Nat) (hk : k < N) (ty0 : Nat → FieldType) (hty : ∀ k, k < N → parseFieldDescriptor (T k).2.2.1 = some (ty0 k)) (hnm : ∀ a, a < N → ∀ b, b < N → a ≠ b → (T a).2.1 ≠ (T b).2.1) (hS0 : va_S A H0 H locs) (hAa : A a) {host : String} (hlink : va_Nw (Cond.fieldLinkNest own index ref (T k).2.1 (T k).2.2.1 host) s) (hsame : ∀ x, s.fieldFound? (T k).1 (T k).2.1 (T k).2.2.1 = some x → s.fieldFound? ref (T k).2.1 (T k).2.2.1 = some x) (hfin : (T k).2.2.2 = false) {ty : FieldType} {v : Value} (hd : ty0 k = ty) (hn : narrow ty v = v) (hfit : fits ty v = true) (hl : k < fs.length) (d : decode cc pc = .ok (.putfield index, 3)) (kk : ∀ (H1 : Heap) (locs1 : List Loc), kO D H1 a ci (fs.set k v) → kUp H a H1 → va_S A H0 H1 locs1 → W p l e R s m args below meth c H1 locs1 cells slots Q (F0 m (pc + 3) ls rest)) (hci : (ci ≠ 12 ∧ ci ≠ 14) ∨ kBase D ≤ a := by first | exact Or.inl (by decide) | exact Or.inr (by assumption)) : W p l e R s m args below meth c H locs cells slots Q (F0 m pc ls (v :: .ref a :: rest)) := by
  have hty1 : parseFieldDescriptor (T k).2.2.1 = some ty := by rw [← hd]; exact hty k hk
  have hap := va_apart (own := own) hts hin ty0 hty hnm hK.va hc
  have hO : va_at D.1 vwCl (a, .inr (ci, fs)) H := hO.resolve_right (fun z => kOw_no z hci)
  obtain ⟨r, h1, cell, q1, q2, q3, q4⟩ := hO
  have hr : r = (C, T, N) := Option.some.inj (h1.symm.trans hc)
  subst hr
  obtain ⟨hS, hfc, kC, hkC, hkind⟩ := hK.va.1 ci _ hc
  obtain ⟨cf, kf, fi, f, hi, hsl⟩ := hS k hk
  have hlay := hts _ (hin _ (u_in_lay hk))
  unfold u_lay at hlay
  rw [if_neg (by rw [hfin]; decide)] at hlay
  have hst := (u_facts hfc hkC (u_lays hts hin hk) hi).1
  have h6 := u_store hfc hkC hkind hlay hi hty1 hn hfit
  refine va_WputK hx hb (f := f) hown (va_Nw.use rfl hlink) (hsame _ hi) hst (by rw [q2]; exact h6) q1 q3 (by rw [hsl]; exact k2_hasslot (q4 k hk)) rfl rfl d fun H' e1 e2 e3 => ?_
  rw [hsl] at e1
  exact kk H' _ (Or.inl ⟨_, hc, t_OB.to (V := updV (vp_V fs) k v) ⟨_, e1, q2, q3, t_set q4 hap hk v⟩ (fun j _ => vp_updV_set hl v j)⟩) ⟨e2, e3⟩ (hS0.put e2 e3 hAa)
theorem kx_putF (hx : p.tables.exec = Jvm.exec) (hb : c.code = cc) {own ref C : String} {T : u_T} {N ci index : Nat} (hts : ∀ w ∈ lw_all, w.before args s = true) (hin : ∀ w ∈ u_ws C T N, w ∈ lw_all) (hown : s.vm.findClass own = some m.cls) (hK : kK D s) {fs : List Value} (hO : kO D H a ci fs) (hc : vwCl[ci]? = some (C, T, N)) (k : Nat) (hk : k < N) (ty0 : Nat → FieldType) (hty : ∀ k, k < N → parseFieldDescriptor (T k).2.2.1 = some (ty0 k)) (hnm : ∀ a, a < N → ∀ b, b < N → a ≠ b → (T a).2.1 ≠ (T b).2.1) (hS0 : va_S A H0 H locs) (hAa : A a) (hlink : (Cond.fieldLink own index ref (T k).2.1 (T k).2.2.1) ∈ lw_all) (hsame : ∀ x, s.fieldFound? (T k).1 (T k).2.1 (T k).2.2.1 = some x → s.fieldFound? ref (T k).2.1 (T k).2.2.1 = some x) (hfin : (T k).2.2.2 = true) (hin2 : meth.name = "<init>") (hdecl : (T k).1 = own) {ty : FieldType} {v : Value} (hd : ty0 k = ty) (hn : narrow ty v = v) (hfit : fits ty v = true) (hl : k < fs.length) (d : decode cc pc = .ok (.putfield index, 3)) (kk : ∀ (H1 : Heap) (locs1 : List Loc), kO D H1 a ci (fs.set k v) → kUp H a H1 → va_S A H0 H1 locs1 → W p l e R s m args below meth c H1 locs1 cells slots Q (F0 m (pc + 3) ls rest)) (hci : (ci ≠ 12 ∧ ci ≠ 14) ∨ kBase D ≤ a := by first | exact Or.inl (by decide) | exact Or.inr (by assumption)) : W p l e R s m args below meth c H locs cells slots Q (F0 m pc ls (v :: .ref a :: rest)) := by
  have hty1 : parseFieldDescriptor (T k).2.2.1 = some ty := by rw [← hd]; exact hty k hk
  have hap := va_apart (own := own) hts hin ty0 hty hnm hK.va hc
  have hO : va_at D.1 vwCl (a, .inr (ci, fs)) H := hO.resolve_right (fun z => kOw_no z hci)
  obtain ⟨r, h1, cell, q1, q2, q3, q4⟩ := hO
  have hr : r = (C, T, N) := Option.some.inj (h1.symm.trans hc)
  subst hr
  obtain ⟨hS, hfc, kC, hkC, hkind⟩ := hK.va.1 ci _ hc
  obtain ⟨cf, kf, fi, f, hi, hsl⟩ := hS k hk
  have hlay := hts _ (hin _ (u_in_lay hk))
  unfold u_lay at hlay
  rw [if_pos hfin] at hlay
  have hst := (u_facts hfc hkC (u_lays hts hin hk) hi).1
  have hcf : m.cls = cf := by
    obtain ⟨_, _, c', _, _, _, -, -, hf', -, -, -, hown2, -⟩ := Cond.laysFinal_spec hlay
    have e1 : c' = cf := by have := hi.symm.trans hf'; simp at this; exact this.1.symm
    rw [hdecl] at hown2
    rw [← e1]; exact Option.some.inj (hown.symm.trans hown2)
  have h6 := u_fits hfc hkC hkind (Or.inr hlay) hi hty1 hn hfit
  refine W.putFinK hx hb hown (hts _ hlink) (hsame _ hi) hst hcf hin2 (by rw [q2]; exact h6) q1 q3 (by rw [hsl]; exact k2_hasslot (q4 k hk)) rfl rfl d fun H' e1 e2 e3 => ?_
  rw [hsl] at e1
  exact kk H' _ (Or.inl ⟨_, hc, t_OB.to (V := updV (vp_V fs) k v) ⟨_, e1, q2, q3, t_set q4 hap hk v⟩ (fun j _ => vp_updV_set hl v j)⟩) ⟨e2, e3⟩ (hS0.put e2 e3 hAa)
theorem kx_new (hx : p.tables.exec = Jvm.exec) (hb : c.code = cc) {own C : String} {T : u_T} {N ci index : Nat} (hts : ∀ w ∈ lw_all, w.before args s = true) (hin : ∀ w ∈ u_ws C T N, w ∈ lw_all) (hown : s.vm.findClass own = some m.cls) (hK : kK D s) (ty : Nat → FieldType) (hty : ∀ k, k < N → parseFieldDescriptor (T k).2.2.1 = some (ty k)) (hcl : Cond.classLink own index C ∈ lw_all) (hinst : Cond.instantiable C N ∈ lw_all) (hini : Cond.initialized C ∈ lw_all) (hS : va_S A H0 H locs) (hc : vwCl[ci]? = some (C, T, N)) {fs : List Value} (hfs : ∀ j, j < N → defaultValue (ty j) = vp_V fs j) (hcells : cells + 1 ≤ R.cells) (hslots : slots + N ≤ R.slots) (d : decode cc pc = .ok (.new index, 3))
    (kk : ∀ (q : Nat) (H1 : Heap), q = H.size → H1.size = H.size + 1 → kO D H1 q ci fs → kEx H H1 → va_S A H0 H1 locs → W p l e R s m args below meth c H1 locs (cells + 1) (slots + N) Q (F0 m (pc + 3) ls (.ref q :: rest))) : W p l e R s m args below meth c H locs cells slots Q (F0 m pc ls rest) := by
  have hKn := hK.va.1 ci _ hc
  refine W.newcK hx hb hown (hts _ hcl) (hts _ hinst) (hts _ hini) rfl d hcells hslots hKn.2.1 rfl fun H1 kC hkC e1 z1 o1 => ?_
  exact kk H.size H1 rfl z1 (Or.inl ⟨_, hc, (u_born ty hts hin hKn hkC e1 hty).to hfs⟩) ⟨by omega, o1⟩ ⟨Nat.le_trans hS.1 (by omega), fun x h1 h2 => (o1 x (Nat.lt_of_lt_of_le h1 hS.1)).trans (hS.2.1 x h1 h2), hS.2.2⟩
theorem kx_newa (hx : p.tables.exec = Jvm.exec) (hb : c.code = cc) {atype : ArrayType} (hts : ∀ w ∈ lw_all, w.before args s = true) (harr : Cond.arrayClass (newarray.typeOf atype) ∈ lw_all) {ty : FieldType} (hty : newarray.typeOf atype = ty) (hK : kK D s) {t : Nat} (ht : (kTys D)[t]? = some (D.2.1 t, ty)) (hp : ∀ C, ty ≠ .object C) (hS : va_S A H0 H locs) {n : Int} {N' : Nat} (hn : n = (N' : Int)) (hN : N' < 100000) {a0 : vp_A} (ha : ∀ cA : ClassId, vp_cell cA a0 = arrV cA N' (fun _ => defaultValue ty)) (hbytes : N' * componentBytes ty ≤ 536870912) (hcells : cells + 1 ≤ R.cells) (hslots : slots + N' ≤ R.slots) (d : decode cc pc = .ok (.newarray atype, 2))
    (kk : ∀ (q : Nat) (H1 : Heap), q = H.size → H1.size = H.size + 1 → kA D H1 q t a0 → kEx H H1 → va_S A H0 H1 locs → W p l e R s m args below meth c H1 locs (cells + 1) (slots + N') Q (F0 m (pc + 2) ls (.ref q :: rest))) : W p l e R s m args below meth c H locs cells slots Q (F0 m pc ls (.int (kI n) :: rest)) := by
  subst hty
  subst hn
  refine va_newaK hx hb (hts _ harr) rfl d rfl (by rw [kI_0, kI_lt (by omega) (by omega) (by omega) (by omega)]; omega) (kI_cl rfl (by omega)) hbytes hcells hslots rfl fun H1 cA e1 z1 o1 hAr hNm => ?_
  have hcA : cA = D.2.1 t := by
    have h2 := (hK.va.2 t _ ht).2
    unfold va_RA at h2
    split at h2
    · rename_i C he; exact absurd he (hp C)
    · exact Option.some.inj (hNm.symm.trans h2)
  subst hcA
  refine kk H.size H1 rfl z1 ?_ ⟨by omega, o1⟩ ⟨Nat.le_trans hS.1 (by omega), fun x h1 h2 => (o1 x (Nat.lt_of_lt_of_le h1 hS.1)).trans (hS.2.1 x h1 h2), hS.2.2⟩
  show H1[H.size]? = some (vp_cell _ _)
  rw [ha]
  exact e1
theorem kx_iald (hx : p.tables.exec = Jvm.exec) (hb : c.code = cc) (hK : kK D s) {n : Nat} {g : Nat → Int} (hA : kAi D H a n g) {i : Int} (j : Nat) (hj : i = (j : Int)) (hn : j < n) (hn31 : n < 2147483648) (d : decode cc pc = .ok (.iaload, 1)) (kk : W p l e R s m args below meth c H locs cells slots Q (F0 m (pc + 1) ls (.int (kI (g j)) :: rest))) : W p l e R s m args below meth c H locs cells slots Q (F0 m pc ls (.int (kI i) :: .ref a :: rest)) := by
  refine va_iald hx hb hK.va (kP1 hA) 0 0 rfl rfl (kI_in hj hn hn31) d ?_
  rw [kI_cl hj (by omega)]
  exact kk
theorem kx_alen (hx : p.tables.exec = Jvm.exec) (hb : c.code = cc) (hK : kK D s) {t : Nat} {x : vp_A} {ty : FieldType} (hA : kA D H a t x) (ht : (kTys D)[t]? = some (D.2.1 t, ty)) (d : decode cc pc = .ok (.arraylength, 1)) (kk : W p l e R s m args below meth c H locs cells slots Q (F0 m (pc + 1) ls (.int (kI (x.1 : Int)) :: rest))) : W p l e R s m args below meth c H locs cells slots Q (F0 m pc ls (.ref a :: rest)) := va_alen hx hb hK.va (kP1 hA) 0 t rfl ht (kI_nat x.1) d kk
theorem kx_iast (hx : p.tables.exec = Jvm.exec) (hb : c.code = cc) (hK : kK D s) {n : Nat} {g : Nat → Int} (hA : kAi D H a n g) (hS0 : va_S A H0 H locs) (hAa : A a) {i x : Int} (j : Nat) (hj : i = (j : Int)) (hn : j < n) (hn31 : n < 2147483648) (d : decode cc pc = .ok (.iastore, 1)) (kk : ∀ (H1 : Heap) (locs1 : List Loc), kAi D H1 a n (kup g j x) → kUp H a H1 → va_S A H0 H1 locs1 → W p l e R s m args below meth c H1 locs1 cells slots Q (F0 m (pc + 1) ls rest)) : W p l e R s m args below meth c H locs cells slots Q (F0 m pc ls (.int (kI x) :: .int (kI i) :: .ref a :: rest)) := by
  refine W.iast hx hb (kP1 hA 0 _ rfl) ((hK.va.2 0 _ rfl).1 n (fun j => .int (kI (g j)))) (fun q => by cases q) (by show ¬ (kI i < 0 ∨ (arrV _ _ _).slots.size ≤ _); rw [arrV_size]; exact kI_in hj hn hn31) rfl rfl d fun H1 e1 z oq => ?_
  refine kk H1 _ ?_ ⟨z, oq⟩ (hS0.put z oq hAa)
  show H1[a]? = some (vp_cell _ _)
  rw [e1, vp_cell_i, vp_cell_i, arrV_store, kI_cl hj (by omega)]
  congr 2
  funext q
  by_cases hq : q = j
  · subst hq
    simp [updV, kup]
  · simp [updV, kup, hq]
def kPre (D : kG) (H : Heap) (av : List Value) : Array Value → State → Prop := va_Pc av (fun U => U.heap = H ∧ kK D U)
theorem kPre.blind {D : kG} {H : Heap} {av : List Value} : FrameBlind (kPre D H av) := fun a U g mk h => by
  obtain ⟨h1, h2, h3⟩ := h
  exact ⟨h1, h2, kK.same (u := U) (U := U.calling g mk a) rfl rfl h3⟩
abbrev kQi (P : Int → Heap → Prop) (A : Nat → Prop) := va_Qi (S := Int) (fun r z => r = kI z) (fun z t => P z t.heap) A
abbrev kQb (P : Bool → Heap → Prop) (A : Nat → Prop) := va_Qi (S := Bool) (fun r z => r = kI (kb z)) (fun z t => P z t.heap) A
abbrev kQv (P : Heap → Prop) (A : Nat → Prop) := va_Qv (S := Unit) (fun _ => True) (fun _ t => P t.heap) A
abbrev kQr (P : Nat → Heap → Prop) (A : Nat → Prop) := va_Qr (S := Unit) (fun _ => True) (fun _ a t => P a t.heap) A
abbrev kQq (P : Option Nat → Heap → Prop) (A : Nat → Prop) := va_Qq (S := Option Nat) (fun r z => r = z) (fun z t => P z t.heap) A
abbrev kQd (P : UInt64 → Heap → Prop) (A : Nat → Prop) := va_Qd (S := UInt64) (fun r z => r = z) (fun z t => P z t.heap) A
theorem kx_iret (hx : p.tables.exec = Jvm.exec) (hb : c.code = cc) (hr : meth.sig.returnType = some .int) (hlocks : meth.locks = false) {P : Int → Heap → Prop} {z : Int} (hP : P z H) (hS : va_S A s.heap H locs) (d : decode cc pc = .ok (.ireturn, 1)) : W p l e R s m args below meth c H locs cells slots (MQ below (kQi P A) args s cells slots A) (F0 m pc ls [.int (kI z)]) := W.iret (v := kI z) hx hb hr (fun t ht hW => ⟨⟨kI z, z, rfl, rfl, by subst ht; exact hP⟩, hS.F ht⟩) hS.2.2 d hlocks
theorem kx_zret (hx : p.tables.exec = Jvm.exec) (hb : c.code = cc) (hr : meth.sig.returnType = some .boolean) (hlocks : meth.locks = false) {P : Bool → Heap → Prop} {z : Bool} (hP : P z H) (hS : va_S A s.heap H locs) (d : decode cc pc = .ok (.ireturn, 1)) : W p l e R s m args below meth c H locs cells slots (MQ below (kQb P A) args s cells slots A) (F0 m pc ls [.int (kI (kb z))]) := W.zret (v := kI (kb z)) hx hb hr (kb_narZ z) (fun t ht hW => ⟨⟨kI (kb z), z, rfl, rfl, by subst ht; exact hP⟩, hS.F ht⟩) hS.2.2 d hlocks
theorem kx_vret (hx : p.tables.exec = Jvm.exec) (hb : c.code = cc) (hr : meth.sig.returnType = none) (hlocks : meth.locks = false) {P : Heap → Prop} (hP : P H) (hS : va_S A s.heap H locs) (d : decode cc pc = .ok (.return_, 1)) : W p l e R s m args below meth c H locs cells slots (MQ below (kQv P A) args s cells slots A) (F0 m pc ls []) := W.vret hx hb hr (fun t ht hW => ⟨⟨(), rfl, trivial, by subst ht; exact hP⟩, hS.F ht⟩) hS.2.2 d hlocks
theorem kx_dret (hx : p.tables.exec = Jvm.exec) (hb : c.code = cc) (hr : meth.sig.returnType = some .double) (hlocks : meth.locks = false) {P : UInt64 → Heap → Prop} {z : UInt64} (hP : P z H) (hS : va_S A s.heap H locs) (d : decode cc pc = .ok (.dreturn, 1)) : W p l e R s m args below meth c H locs cells slots (MQ below (kQd P A) args s cells slots A) (F0 m pc ls [.double z]) := W.dret (v := z) hx hb hr (fun t ht hW => ⟨⟨z, z, rfl, rfl, by subst ht; exact hP⟩, hS.F ht⟩) hS.2.2 d hlocks
theorem kx_aret (hx : p.tables.exec = Jvm.exec) (hb : c.code = cc) {rt : FieldType} (hr : meth.sig.returnType = some rt) (hrt : (∃ n, rt = .object n) ∨ ∃ t, rt = .array t) (hlocks : meth.locks = false) {P : Nat → Heap → Prop} {z : Nat} (hP : P z H) (hS : va_S A s.heap H locs) (d : decode cc pc = .ok (.areturn, 1)) : W p l e R s m args below meth c H locs cells slots (MQ below (kQr P A) args s cells slots A) (F0 m pc ls [.ref z]) := W.aret (v := .ref z) hx hb hr hrt (Or.inr ⟨z, rfl⟩) (fun t ht hW => ⟨⟨(), z, rfl, trivial, by subst ht; exact hP⟩, hS.F ht⟩) hS.2.2 d hlocks
theorem kx_aretq (hx : p.tables.exec = Jvm.exec) (hb : c.code = cc) {rt : FieldType} (hr : meth.sig.returnType = some rt) (hrt : (∃ n, rt = .object n) ∨ ∃ t, rt = .array t) (hlocks : meth.locks = false) {P : Option Nat → Heap → Prop} (z : Option Nat) {v : Value} (hv : v = va_rf z) (hP : P z H) (hS : va_S A s.heap H locs) (d : decode cc pc = .ok (.areturn, 1)) : W p l e R s m args below meth c H locs cells slots (MQ below (kQq P A) args s cells slots A) (F0 m pc ls [v]) := W.aret (v := v) hx hb hr hrt (by subst hv; cases z; exact Or.inl rfl; exact Or.inr ⟨_, rfl⟩) (fun t ht hW => ⟨⟨z, z, by rw [hv], rfl, by subst ht; exact hP⟩, hS.F ht⟩) hS.2.2 d hlocks
theorem kx_pv {C : String} {b : Addr} {As : List Value} (hK : kK D s) (hS : va_S A s.heap H locs) (hB : ∀ q, A q → kBase D ≤ q) (hrecv : ∃ cell : Cell, H[b]? = some cell ∧ cell.vm.isStatics = false ∧ s.vm.findClass C = some cell.cls) : PreV s H C b (kPre D H (.ref b :: As)) As :=
  ⟨kPre.blind, hrecv, fun U hU hW => ⟨rfl, hU, hK.moved hS.toFr hB hU hW⟩⟩
theorem kx_ps {av : List Value} (hK : kK D s) (hS : va_S A s.heap H locs) (hB : ∀ q, A q → kBase D ≤ q) : PreS s H (kPre D H av) av :=
  ⟨kPre.blind, fun U hU hW => ⟨rfl, hU, hK.moved hS.toFr hB hU hW⟩⟩
theorem kx_rc {ci : Nat} {fs : List Value} {C : String} {T : u_T} {N : Nat} (hK : kK D s) (hO : kO D H a ci fs) (hc : vwCl[ci]? = some (C, T, N)) : ∃ cell : Cell, H[a]? = some cell ∧ cell.vm.isStatics = false ∧ s.vm.findClass C = some cell.cls := by
  rcases hO with hO | ⟨_, _, r, cell, h1, q1, q2, q3, q5, q4⟩
  · exact va_recv (q := (C, T, N)) hK.va (kP1 hO) hc (q0 := 0) rfl
  · exact ⟨cell, q1, q5, by rw [q2]; exact (hK.va.1 ci _ hc).2.1⟩
theorem kx_ci {mc ms : Nat} {free : Addr → Prop} {A1 : Nat → Prop} {av : Array Value} {st0 : List Value} {P : Int → Heap → Prop} (hr : va_Run p l e R s m args below meth c H locs cells slots mc ms (F0 m pc ls st0) rest (kQi P A1 av) free) (hS : va_S A H0 H locs) (hA : ∀ q, q < H.size → A1 q → A q) (hf : ∀ q, free q → A q) (kk : ∀ (z : Int) (H1 : Heap) (locs1 : List Loc), P z H1 → kFr A1 H H1 → va_S A H0 H1 locs1 → W p l e R s m args below meth c H1 locs1 (cells + mc) (slots + ms) Q (F0 m (pc + 3) ls (.int (kI z) :: rest))) : W p l e R s m args below meth c H locs cells slots Q (F0 m pc ls st0) := va_calli hr hS hA hf (fun r u t H1 locs1 ht hvm hp hB hz hk hS1 => by subst hp; subst ht; exact kk u _ locs1 hB ⟨hz, hk⟩ hS1)
theorem kx_ci0 {av : Array Value} {st0 : List Value} {P : Int → Prop} (hr : va_Run p l e R s m args below meth c H locs cells slots 0 0 (F0 m pc ls st0) rest (kQi (fun z H9 => H9 = H ∧ P z) kNO av) kNO) (hS : va_S A H0 H locs) (kk : ∀ (z : Int) (locs1 : List Loc), P z → va_S A H0 H locs1 → W p l e R s m args below meth c H locs1 cells slots Q (F0 m (pc + 3) ls (.int (kI z) :: rest))) : W p l e R s m args below meth c H locs cells slots Q (F0 m pc ls st0) := kx_ci hr hS (fun _ _ h => h.elim) (fun _ h => h.elim) (fun z H1 locs1 h _ hS1 => by obtain ⟨h1, h2⟩ := h; subst h1; exact kk z locs1 h2 hS1)
theorem kx_cb {mc ms : Nat} {free : Addr → Prop} {A1 : Nat → Prop} {av : Array Value} {st0 : List Value} {P : Bool → Heap → Prop} (hr : va_Run p l e R s m args below meth c H locs cells slots mc ms (F0 m pc ls st0) rest (kQb P A1 av) free) (hS : va_S A H0 H locs) (hA : ∀ q, q < H.size → A1 q → A q) (hf : ∀ q, free q → A q) (kk : ∀ (z : Bool) (H1 : Heap) (locs1 : List Loc), P z H1 → kFr A1 H H1 → va_S A H0 H1 locs1 → W p l e R s m args below meth c H1 locs1 (cells + mc) (slots + ms) Q (F0 m (pc + 3) ls (.int (kI (kb z)) :: rest))) : W p l e R s m args below meth c H locs cells slots Q (F0 m pc ls st0) := va_calli hr hS hA hf (fun r u t H1 locs1 ht hvm hp hB hz hk hS1 => by subst hp; subst ht; exact kk u _ locs1 hB ⟨hz, hk⟩ hS1)
theorem kx_cb0 {av : Array Value} {st0 : List Value} {P : Bool → Prop} (hr : va_Run p l e R s m args below meth c H locs cells slots 0 0 (F0 m pc ls st0) rest (kQb (fun z H9 => H9 = H ∧ P z) kNO av) kNO) (hS : va_S A H0 H locs) (kk : ∀ (z : Bool) (locs1 : List Loc), P z → va_S A H0 H locs1 → W p l e R s m args below meth c H locs1 cells slots Q (F0 m (pc + 3) ls (.int (kI (kb z)) :: rest))) : W p l e R s m args below meth c H locs cells slots Q (F0 m pc ls st0) := kx_cb hr hS (fun _ _ h => h.elim) (fun _ h => h.elim) (fun z H1 locs1 h _ hS1 => by obtain ⟨h1, h2⟩ := h; subst h1; exact kk z locs1 h2 hS1)
theorem kx_cr {mc ms : Nat} {free : Addr → Prop} {A1 : Nat → Prop} {av : Array Value} {st0 : List Value} {P : Nat → Heap → Prop} (hr : va_Run p l e R s m args below meth c H locs cells slots mc ms (F0 m pc ls st0) rest (kQr P A1 av) free) (hS : va_S A H0 H locs) (hA : ∀ q, q < H.size → A1 q → A q) (hf : ∀ q, free q → A q) (kk : ∀ (z : Nat) (H1 : Heap) (locs1 : List Loc), P z H1 → kFr A1 H H1 → va_S A H0 H1 locs1 → W p l e R s m args below meth c H1 locs1 (cells + mc) (slots + ms) Q (F0 m (pc + 3) ls (.ref z :: rest))) : W p l e R s m args below meth c H locs cells slots Q (F0 m pc ls st0) := va_callr hr hS hA hf (fun u ra t H1 locs1 ht hvm hp hB hz hk hS1 => by subst ht; exact kk ra _ locs1 hB ⟨hz, hk⟩ hS1)
theorem kx_cr0 {av : Array Value} {st0 : List Value} {P : Nat → Prop} (hr : va_Run p l e R s m args below meth c H locs cells slots 0 0 (F0 m pc ls st0) rest (kQr (fun z H9 => H9 = H ∧ P z) kNO av) kNO) (hS : va_S A H0 H locs) (kk : ∀ (z : Nat) (locs1 : List Loc), P z → va_S A H0 H locs1 → W p l e R s m args below meth c H locs1 cells slots Q (F0 m (pc + 3) ls (.ref z :: rest))) : W p l e R s m args below meth c H locs cells slots Q (F0 m pc ls st0) := kx_cr hr hS (fun _ _ h => h.elim) (fun _ h => h.elim) (fun z H1 locs1 h _ hS1 => by obtain ⟨h1, h2⟩ := h; subst h1; exact kk z locs1 h2 hS1)
theorem kx_cq {mc ms : Nat} {free : Addr → Prop} {A1 : Nat → Prop} {av : Array Value} {st0 : List Value} {P : Option Nat → Heap → Prop} (hr : va_Run p l e R s m args below meth c H locs cells slots mc ms (F0 m pc ls st0) rest (kQq P A1 av) free) (hS : va_S A H0 H locs) (hA : ∀ q, q < H.size → A1 q → A q) (hf : ∀ q, free q → A q) (kk : ∀ (z : Option Nat) (H1 : Heap) (locs1 : List Loc), P z H1 → kFr A1 H H1 → va_S A H0 H1 locs1 → W p l e R s m args below meth c H1 locs1 (cells + mc) (slots + ms) Q (F0 m (pc + 3) ls (va_rf z :: rest))) : W p l e R s m args below meth c H locs cells slots Q (F0 m pc ls st0) := va_callq hr hS hA hf (fun r u t H1 locs1 ht hvm hp hB hz hk hS1 => by subst hp; subst ht; exact kk _ _ locs1 hB ⟨hz, hk⟩ hS1)
theorem kx_cq0 {av : Array Value} {st0 : List Value} {P : Option Nat → Prop} (hr : va_Run p l e R s m args below meth c H locs cells slots 0 0 (F0 m pc ls st0) rest (kQq (fun z H9 => H9 = H ∧ P z) kNO av) kNO) (hS : va_S A H0 H locs) (kk : ∀ (z : Option Nat) (locs1 : List Loc), P z → va_S A H0 H locs1 → W p l e R s m args below meth c H locs1 cells slots Q (F0 m (pc + 3) ls (va_rf z :: rest))) : W p l e R s m args below meth c H locs cells slots Q (F0 m pc ls st0) := kx_cq hr hS (fun _ _ h => h.elim) (fun _ h => h.elim) (fun z H1 locs1 h _ hS1 => by obtain ⟨h1, h2⟩ := h; subst h1; exact kk z locs1 h2 hS1)
theorem kx_cd {mc ms : Nat} {free : Addr → Prop} {A1 : Nat → Prop} {av : Array Value} {st0 : List Value} {P : UInt64 → Heap → Prop} (hr : va_Run p l e R s m args below meth c H locs cells slots mc ms (F0 m pc ls st0) rest (kQd P A1 av) free) (hS : va_S A H0 H locs) (hA : ∀ q, q < H.size → A1 q → A q) (hf : ∀ q, free q → A q) (kk : ∀ (z : UInt64) (H1 : Heap) (locs1 : List Loc), P z H1 → kFr A1 H H1 → va_S A H0 H1 locs1 → W p l e R s m args below meth c H1 locs1 (cells + mc) (slots + ms) Q (F0 m (pc + 3) ls (.double z :: rest))) : W p l e R s m args below meth c H locs cells slots Q (F0 m pc ls st0) := va_calld hr hS hA hf (fun r u t H1 locs1 ht hvm hp hB hz hk hS1 => by subst hp; subst ht; exact kk _ _ locs1 hB ⟨hz, hk⟩ hS1)
theorem kx_cd0 {av : Array Value} {st0 : List Value} {P : UInt64 → Prop} (hr : va_Run p l e R s m args below meth c H locs cells slots 0 0 (F0 m pc ls st0) rest (kQd (fun z H9 => H9 = H ∧ P z) kNO av) kNO) (hS : va_S A H0 H locs) (kk : ∀ (z : UInt64) (locs1 : List Loc), P z → va_S A H0 H locs1 → W p l e R s m args below meth c H locs1 cells slots Q (F0 m (pc + 3) ls (.double z :: rest))) : W p l e R s m args below meth c H locs cells slots Q (F0 m pc ls st0) := kx_cd hr hS (fun _ _ h => h.elim) (fun _ h => h.elim) (fun z H1 locs1 h _ hS1 => by obtain ⟨h1, h2⟩ := h; subst h1; exact kk z locs1 h2 hS1)
theorem kx_cv {mc ms : Nat} {free : Addr → Prop} {A1 : Nat → Prop} {av : Array Value} {st0 : List Value} {P : Heap → Prop} (hr : va_Run p l e R s m args below meth c H locs cells slots mc ms (F0 m pc ls st0) rest (kQv P A1 av) free) (hS : va_S A H0 H locs) (hA : ∀ q, q < H.size → A1 q → A q) (hf : ∀ q, free q → A q) (kk : ∀ (H1 : Heap) (locs1 : List Loc), P H1 → kFr A1 H H1 → va_S A H0 H1 locs1 → W p l e R s m args below meth c H1 locs1 (cells + mc) (slots + ms) Q (F0 m (pc + 3) ls (rest))) : W p l e R s m args below meth c H locs cells slots Q (F0 m pc ls st0) := va_callv hr hS hA hf (fun u t H1 locs1 ht hvm hp hB hz hk hS1 => by subst ht; exact kk _ locs1 hB ⟨hz, hk⟩ hS1)
theorem kx_cv0 {av : Array Value} {st0 : List Value} {P : Prop} (hr : va_Run p l e R s m args below meth c H locs cells slots 0 0 (F0 m pc ls st0) rest (kQv (fun H9 => H9 = H ∧ P) kNO av) kNO) (hS : va_S A H0 H locs) (kk : ∀ (locs1 : List Loc), P → va_S A H0 H locs1 → W p l e R s m args below meth c H locs1 cells slots Q (F0 m (pc + 3) ls (rest))) : W p l e R s m args below meth c H locs cells slots Q (F0 m pc ls st0) := kx_cv hr hS (fun _ _ h => h.elim) (fun _ h => h.elim) (fun H1 locs1 h _ hS1 => by obtain ⟨h1, h2⟩ := h; subst h1; exact kk locs1 h2 hS1)
theorem kx_cFi {mc ms : Nat} {free : Addr → Prop} {A1 : Nat → Prop} {av : Array Value} {st0 : List Value} {P : Int → Heap → Prop} (hr : va_Run5 p l e R s m args below meth c H locs cells slots mc ms (F0 m pc ls st0) rest (kQi P A1 av) free) (hS : va_S A H0 H locs) (hA : ∀ q, q < H.size → A1 q → A q) (hf : ∀ q, free q → A q) (kk : ∀ (z : Int) (H1 : Heap) (locs1 : List Loc), P z H1 → kFr A1 H H1 → va_S A H0 H1 locs1 → W p l e R s m args below meth c H1 locs1 (cells + mc) (slots + ms) Q (F0 m (pc + 5) ls (.int (kI z) :: rest))) : W p l e R s m args below meth c H locs cells slots Q (F0 m pc ls st0) := va_callFi hr hS hA hf (fun r u t H1 locs1 ht hvm hp hB hz hk hS1 => by subst hp; subst ht; exact kk u _ locs1 hB ⟨hz, hk⟩ hS1)
theorem kx_cFi0 {av : Array Value} {st0 : List Value} {P : Int → Prop} (hr : va_Run5 p l e R s m args below meth c H locs cells slots 0 0 (F0 m pc ls st0) rest (kQi (fun z H9 => H9 = H ∧ P z) kNO av) kNO) (hS : va_S A H0 H locs) (kk : ∀ (z : Int) (locs1 : List Loc), P z → va_S A H0 H locs1 → W p l e R s m args below meth c H locs1 cells slots Q (F0 m (pc + 5) ls (.int (kI z) :: rest))) : W p l e R s m args below meth c H locs cells slots Q (F0 m pc ls st0) := kx_cFi hr hS (fun _ _ h => h.elim) (fun _ h => h.elim) (fun z H1 locs1 h _ hS1 => by obtain ⟨h1, h2⟩ := h; subst h1; exact kk z locs1 h2 hS1)
theorem kx_cFb {mc ms : Nat} {free : Addr → Prop} {A1 : Nat → Prop} {av : Array Value} {st0 : List Value} {P : Bool → Heap → Prop} (hr : va_Run5 p l e R s m args below meth c H locs cells slots mc ms (F0 m pc ls st0) rest (kQb P A1 av) free) (hS : va_S A H0 H locs) (hA : ∀ q, q < H.size → A1 q → A q) (hf : ∀ q, free q → A q) (kk : ∀ (z : Bool) (H1 : Heap) (locs1 : List Loc), P z H1 → kFr A1 H H1 → va_S A H0 H1 locs1 → W p l e R s m args below meth c H1 locs1 (cells + mc) (slots + ms) Q (F0 m (pc + 5) ls (.int (kI (kb z)) :: rest))) : W p l e R s m args below meth c H locs cells slots Q (F0 m pc ls st0) := va_callFi hr hS hA hf (fun r u t H1 locs1 ht hvm hp hB hz hk hS1 => by subst hp; subst ht; exact kk u _ locs1 hB ⟨hz, hk⟩ hS1)
theorem kx_cFb0 {av : Array Value} {st0 : List Value} {P : Bool → Prop} (hr : va_Run5 p l e R s m args below meth c H locs cells slots 0 0 (F0 m pc ls st0) rest (kQb (fun z H9 => H9 = H ∧ P z) kNO av) kNO) (hS : va_S A H0 H locs) (kk : ∀ (z : Bool) (locs1 : List Loc), P z → va_S A H0 H locs1 → W p l e R s m args below meth c H locs1 cells slots Q (F0 m (pc + 5) ls (.int (kI (kb z)) :: rest))) : W p l e R s m args below meth c H locs cells slots Q (F0 m pc ls st0) := kx_cFb hr hS (fun _ _ h => h.elim) (fun _ h => h.elim) (fun z H1 locs1 h _ hS1 => by obtain ⟨h1, h2⟩ := h; subst h1; exact kk z locs1 h2 hS1)
theorem kx_cFr {mc ms : Nat} {free : Addr → Prop} {A1 : Nat → Prop} {av : Array Value} {st0 : List Value} {P : Nat → Heap → Prop} (hr : va_Run5 p l e R s m args below meth c H locs cells slots mc ms (F0 m pc ls st0) rest (kQr P A1 av) free) (hS : va_S A H0 H locs) (hA : ∀ q, q < H.size → A1 q → A q) (hf : ∀ q, free q → A q) (kk : ∀ (z : Nat) (H1 : Heap) (locs1 : List Loc), P z H1 → kFr A1 H H1 → va_S A H0 H1 locs1 → W p l e R s m args below meth c H1 locs1 (cells + mc) (slots + ms) Q (F0 m (pc + 5) ls (.ref z :: rest))) : W p l e R s m args below meth c H locs cells slots Q (F0 m pc ls st0) := va_callFr hr hS hA hf (fun u ra t H1 locs1 ht hvm hp hB hz hk hS1 => by subst ht; exact kk ra _ locs1 hB ⟨hz, hk⟩ hS1)
theorem kx_cFr0 {av : Array Value} {st0 : List Value} {P : Nat → Prop} (hr : va_Run5 p l e R s m args below meth c H locs cells slots 0 0 (F0 m pc ls st0) rest (kQr (fun z H9 => H9 = H ∧ P z) kNO av) kNO) (hS : va_S A H0 H locs) (kk : ∀ (z : Nat) (locs1 : List Loc), P z → va_S A H0 H locs1 → W p l e R s m args below meth c H locs1 cells slots Q (F0 m (pc + 5) ls (.ref z :: rest))) : W p l e R s m args below meth c H locs cells slots Q (F0 m pc ls st0) := kx_cFr hr hS (fun _ _ h => h.elim) (fun _ h => h.elim) (fun z H1 locs1 h _ hS1 => by obtain ⟨h1, h2⟩ := h; subst h1; exact kk z locs1 h2 hS1)
theorem kx_cFq {mc ms : Nat} {free : Addr → Prop} {A1 : Nat → Prop} {av : Array Value} {st0 : List Value} {P : Option Nat → Heap → Prop} (hr : va_Run5 p l e R s m args below meth c H locs cells slots mc ms (F0 m pc ls st0) rest (kQq P A1 av) free) (hS : va_S A H0 H locs) (hA : ∀ q, q < H.size → A1 q → A q) (hf : ∀ q, free q → A q) (kk : ∀ (z : Option Nat) (H1 : Heap) (locs1 : List Loc), P z H1 → kFr A1 H H1 → va_S A H0 H1 locs1 → W p l e R s m args below meth c H1 locs1 (cells + mc) (slots + ms) Q (F0 m (pc + 5) ls (va_rf z :: rest))) : W p l e R s m args below meth c H locs cells slots Q (F0 m pc ls st0) := va_callFq hr hS hA hf (fun r u t H1 locs1 ht hvm hp hB hz hk hS1 => by subst hp; subst ht; exact kk _ _ locs1 hB ⟨hz, hk⟩ hS1)
theorem kx_cFq0 {av : Array Value} {st0 : List Value} {P : Option Nat → Prop} (hr : va_Run5 p l e R s m args below meth c H locs cells slots 0 0 (F0 m pc ls st0) rest (kQq (fun z H9 => H9 = H ∧ P z) kNO av) kNO) (hS : va_S A H0 H locs) (kk : ∀ (z : Option Nat) (locs1 : List Loc), P z → va_S A H0 H locs1 → W p l e R s m args below meth c H locs1 cells slots Q (F0 m (pc + 5) ls (va_rf z :: rest))) : W p l e R s m args below meth c H locs cells slots Q (F0 m pc ls st0) := kx_cFq hr hS (fun _ _ h => h.elim) (fun _ h => h.elim) (fun z H1 locs1 h _ hS1 => by obtain ⟨h1, h2⟩ := h; subst h1; exact kk z locs1 h2 hS1)
theorem kx_cFd {mc ms : Nat} {free : Addr → Prop} {A1 : Nat → Prop} {av : Array Value} {st0 : List Value} {P : UInt64 → Heap → Prop} (hr : va_Run5 p l e R s m args below meth c H locs cells slots mc ms (F0 m pc ls st0) rest (kQd P A1 av) free) (hS : va_S A H0 H locs) (hA : ∀ q, q < H.size → A1 q → A q) (hf : ∀ q, free q → A q) (kk : ∀ (z : UInt64) (H1 : Heap) (locs1 : List Loc), P z H1 → kFr A1 H H1 → va_S A H0 H1 locs1 → W p l e R s m args below meth c H1 locs1 (cells + mc) (slots + ms) Q (F0 m (pc + 5) ls (.double z :: rest))) : W p l e R s m args below meth c H locs cells slots Q (F0 m pc ls st0) := va_callFd hr hS hA hf (fun r u t H1 locs1 ht hvm hp hB hz hk hS1 => by subst hp; subst ht; exact kk _ _ locs1 hB ⟨hz, hk⟩ hS1)
theorem kx_cFd0 {av : Array Value} {st0 : List Value} {P : UInt64 → Prop} (hr : va_Run5 p l e R s m args below meth c H locs cells slots 0 0 (F0 m pc ls st0) rest (kQd (fun z H9 => H9 = H ∧ P z) kNO av) kNO) (hS : va_S A H0 H locs) (kk : ∀ (z : UInt64) (locs1 : List Loc), P z → va_S A H0 H locs1 → W p l e R s m args below meth c H locs1 cells slots Q (F0 m (pc + 5) ls (.double z :: rest))) : W p l e R s m args below meth c H locs cells slots Q (F0 m pc ls st0) := kx_cFd hr hS (fun _ _ h => h.elim) (fun _ h => h.elim) (fun z H1 locs1 h _ hS1 => by obtain ⟨h1, h2⟩ := h; subst h1; exact kk z locs1 h2 hS1)
theorem kx_cFv {mc ms : Nat} {free : Addr → Prop} {A1 : Nat → Prop} {av : Array Value} {st0 : List Value} {P : Heap → Prop} (hr : va_Run5 p l e R s m args below meth c H locs cells slots mc ms (F0 m pc ls st0) rest (kQv P A1 av) free) (hS : va_S A H0 H locs) (hA : ∀ q, q < H.size → A1 q → A q) (hf : ∀ q, free q → A q) (kk : ∀ (H1 : Heap) (locs1 : List Loc), P H1 → kFr A1 H H1 → va_S A H0 H1 locs1 → W p l e R s m args below meth c H1 locs1 (cells + mc) (slots + ms) Q (F0 m (pc + 5) ls (rest))) : W p l e R s m args below meth c H locs cells slots Q (F0 m pc ls st0) := va_callFv hr hS hA hf (fun u t H1 locs1 ht hvm hp hB hz hk hS1 => by subst ht; exact kk _ locs1 hB ⟨hz, hk⟩ hS1)
theorem kx_cFv0 {av : Array Value} {st0 : List Value} {P : Prop} (hr : va_Run5 p l e R s m args below meth c H locs cells slots 0 0 (F0 m pc ls st0) rest (kQv (fun H9 => H9 = H ∧ P) kNO av) kNO) (hS : va_S A H0 H locs) (kk : ∀ (locs1 : List Loc), P → va_S A H0 H locs1 → W p l e R s m args below meth c H locs1 cells slots Q (F0 m (pc + 5) ls (rest))) : W p l e R s m args below meth c H locs cells slots Q (F0 m pc ls st0) := kx_cFv hr hS (fun _ _ h => h.elim) (fun _ h => h.elim) (fun H1 locs1 h _ hS1 => by obtain ⟨h1, h2⟩ := h; subst h1; exact kk locs1 h2 hS1)
end KX2
