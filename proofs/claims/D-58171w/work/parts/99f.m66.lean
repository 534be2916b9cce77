/-! MATH 66: the start -/
abbrev stG (s : State) (b : Nat) : Prop := ∀ c ∈ flatC (Jvm.Cond.and given_1 narrow_1), c.before #[Value.ref b] s = true
abbrev stT (s : State) (b : Nat) : Prop := ∀ w ∈ lw_tbl, w.before #[Value.ref b] s = true
section KST
variable {s : State} {b : Nat} {A : Nat → Prop}
set_option maxRecDepth 100000
theorem mem_ac : ∀ j, j < 8 → (Cond.eq (.elem (.static "ContourLabels" "ACROSS" "[I") (.int (Int32.ofNat j))) (.int (kI (([1, 1, 0, -1, -1, -1, 0, 1] : List Int).getD j 0)))) ∈ flatC (Jvm.Cond.and given_1 narrow_1) := by decide +kernel
theorem st_ac (hT : stT s b) (hs : stG s b) (hA : ∀ a : Nat, a < s.heap.size → ¬ A a) : ∃ t, va_Z "ContourLabels" "ACROSS" "[I" (.ref t) A s s.heap ∧ va_T .int t 8 (fun j => .int (kI (([1, 1, 0, -1, -1, -1, 0, 1] : List Int).getD j 0))) A s s.heap := by
  obtain ⟨t, ht, h⟩ := va_Tof (args := #[Value.ref b]) (s := s) (tm := .static "ContourLabels" "ACROSS" "[I") (ty := .int) (N := 8) (f := (fun j => .int (kI (([1, 1, 0, -1, -1, -1, 0, 1] : List Int).getD j 0)))) (A := A) (by decide) (hs _ (by decide +kernel)) (va_eqt (z := Int32.ofNat 8) (hs _ (by decide +kernel))) (fun j hj => va_eqt (hs _ (mem_ac j hj))) hA
  exact ⟨t, va_Zref (args := #[Value.ref b]) (hT _ (by decide +kernel)) (hT _ (by decide +kernel)) ht, h⟩
theorem mem_dn : ∀ j, j < 8 → (Cond.eq (.elem (.static "ContourLabels" "DOWN" "[I") (.int (Int32.ofNat j))) (.int (kI (([0, 1, 1, 1, 0, -1, -1, -1] : List Int).getD j 0)))) ∈ flatC (Jvm.Cond.and given_1 narrow_1) := by decide +kernel
theorem st_dn (hT : stT s b) (hs : stG s b) (hA : ∀ a : Nat, a < s.heap.size → ¬ A a) : ∃ t, va_Z "ContourLabels" "DOWN" "[I" (.ref t) A s s.heap ∧ va_T .int t 8 (fun j => .int (kI (([0, 1, 1, 1, 0, -1, -1, -1] : List Int).getD j 0))) A s s.heap := by
  obtain ⟨t, ht, h⟩ := va_Tof (args := #[Value.ref b]) (s := s) (tm := .static "ContourLabels" "DOWN" "[I") (ty := .int) (N := 8) (f := (fun j => .int (kI (([0, 1, 1, 1, 0, -1, -1, -1] : List Int).getD j 0)))) (A := A) (by decide) (hs _ (by decide +kernel)) (va_eqt (z := Int32.ofNat 8) (hs _ (by decide +kernel))) (fun j hj => va_eqt (hs _ (mem_dn j hj))) hA
  exact ⟨t, va_Zref (args := #[Value.ref b]) (hT _ (by decide +kernel)) (hT _ (by decide +kernel)) ht, h⟩
theorem st_em (hT : stT s b) (hs : stG s b) (hA : ∀ a : Nat, a < s.heap.size → ¬ A a) : ∃ t, va_Z "java/util/ArrayList" "DEFAULTCAPACITY_EMPTY_ELEMENTDATA" "[Ljava/lang/Object;" (.ref t) A s s.heap ∧ va_T (.object "java/lang/Object") t 0 (fun _ => .null) A s s.heap := by
  obtain ⟨t, ht, h⟩ := va_Tof (args := #[Value.ref b]) (s := s) (tm := .static "java/util/ArrayList" "DEFAULTCAPACITY_EMPTY_ELEMENTDATA" "[Ljava/lang/Object;") (ty := .object "java/lang/Object") (N := 0) (f := fun _ => .null) (A := A) (by decide) (hs _ (by decide +kernel)) (va_eqt (z := Int32.ofNat 0) (hs _ (by decide +kernel))) (fun j hj => absurd hj (Nat.not_lt_zero j)) hA
  exact ⟨t, va_Zref (args := #[Value.ref b]) (hT _ (by decide +kernel)) (hT _ (by decide +kernel)) ht, h⟩
theorem st_cs (hT : stT s b) (hs : stG s b) (hA : ∀ a : Nat, a < s.heap.size → ¬ A a) : va_Z "java/lang/String" "COMPACT_STRINGS" "Z" (.int (kI 1)) A s s.heap := va_Zof (args := #[Value.ref b]) (hT _ (by decide +kernel)) (hT _ (by decide +kernel)) (va_eqt (hs _ (by decide +kernel))) hA
theorem st_hg (hT : stT s b) (hs : stG s b) (hA : ∀ a : Nat, a < s.heap.size → ¬ A a) : va_Z "java/lang/Integer$IntegerCache" "high" "I" (.int (kI 127)) A s s.heap := va_Zof (args := #[Value.ref b]) (hT _ (by decide +kernel)) (hT _ (by decide +kernel)) (va_eqt (hs _ (by decide +kernel))) hA
theorem vbc_eq : ∀ k : Nat, k < 256 → vb_c k = kI ((k : Int) - 128) := by decide +kernel
theorem st_ca (hT : stT s b) (hs : stG s b) (hA : ∀ a : Nat, a < s.heap.size → ¬ A a) : ∃ (t : Nat) (ad : Nat → Nat), va_Z "java/lang/Integer$IntegerCache" "cache" "[Ljava/lang/Integer;" (.ref t) A s s.heap ∧ va_T (.object "java/lang/Integer") t 256 (fun j => .ref (ad j)) A s s.heap ∧ vb_C ad A s s.heap := by
  have hlen := va_eqt (args := #[Value.ref b]) (s := s) (t := .length (.static "java/lang/Integer$IntegerCache" "cache" "[Ljava/lang/Integer;")) (z := Int32.ofNat 256) (hs _ (by decide +kernel))
  obtain ⟨ad, h1, h2⟩ := vb_Cof (args := #[Value.ref b]) (s := s) (A := A) (st := .static "java/lang/Integer$IntegerCache" "cache" "[Ljava/lang/Integer;") rfl hlen (hs _ (by decide +kernel)) hA
  obtain ⟨t, ht, h⟩ := va_Tof (args := #[Value.ref b]) (s := s) (tm := .static "java/lang/Integer$IntegerCache" "cache" "[Ljava/lang/Integer;") (ty := .object "java/lang/Integer") (N := 256) (f := fun j => .ref (ad j)) (A := A) (by decide) (hs _ (by decide +kernel)) hlen h2 hA
  exact ⟨t, ad, va_Zref (args := #[Value.ref b]) (hT _ (by decide +kernel)) (hT _ (by decide +kernel)) ht, h, h1⟩
theorem st_us (hT : stT s b) (hs : stG s b) (hA : ∀ a : Nat, a < s.heap.size → ¬ A a) : vx_Zq Bundle.tN "UNASSIGNED_STACK" Bundle.steD A s s.heap := vx_Zqof (args := #[Value.ref b]) (hT _ (by decide +kernel)) (hT _ (by decide +kernel)) (hs _ (by decide +kernel)) hA
theorem st_ss (hT : stT s b) (hs : stG s b) (hA : ∀ a : Nat, a < s.heap.size → ¬ A a) : vx_Zq Bundle.tN "SUPPRESSED_SENTINEL" Bundle.listD A s s.heap := vx_Zqof (args := #[Value.ref b]) (hT _ (by decide +kernel)) (hT _ (by decide +kernel)) (hs _ (by decide +kernel)) hA
theorem st_ref {t : Term} {args : Array Value} (h : (Cond.isRef t).before args s = true) : ∃ q : Option Nat, t.eval args s none [] s = some (va_rf q) := by
  cases hv : t.eval args s none [] s with
  | none => simp [Cond.before, Cond.holds, Cond.value, hv] at h
  | some v =>
    cases v with
    | ref a => exact ⟨some a, rfl⟩
    | null => exact ⟨none, rfl⟩
    | _ => simp [Cond.before, Cond.holds, Cond.value, hv, Value.isRef] at h
theorem st_fm (hT : stT s b) (hs : stG s b) (hA : ∀ a : Nat, a < s.heap.size → ¬ A a) : ∃ q : Option Nat, va_Z "jdk/internal/util/Preconditions" "SIOOBE_FORMATTER" "Ljava/util/function/BiFunction;" (va_rf q) A s s.heap := by
  obtain ⟨q, hq⟩ := st_ref (args := #[Value.ref b]) (s := s) (t := .static "jdk/internal/util/Preconditions" "SIOOBE_FORMATTER" "Ljava/util/function/BiFunction;") (hs _ (by decide +kernel))
  exact ⟨q, va_Zof (args := #[Value.ref b]) (hT _ (by decide +kernel)) (hT _ (by decide +kernel)) hq hA⟩
theorem mem_lt : ∀ j, j < 8 → (Cond.eq (.elem (.field (.string "ContourLabels$TextReader" 57) "java/lang/String" "value" "[B") (.int (Int32.ofNat j))) (.int (kI (([110, 115, 119, 108, 117, 98, 97, 103] : List Int).getD j 0)))) ∈ flatC (Jvm.Cond.and given_1 narrow_1) := by decide +kernel
theorem st_lt (hT : stT s b) (hs : stG s b) (hA : ∀ a : Nat, a < s.heap.size → ¬ A a) : ∃ a t : Nat, vk_R "ContourLabels$TextReader" 57 "nswlubag" a s ∧ va_T .byte t 8 (fun j => .int (kI (([110, 115, 119, 108, 117, 98, 97, 103] : List Int).getD j 0))) A s s.heap ∧ va_OF "java/lang/String" "coder" "B" (.int 0) a A s s.heap ∧ va_OF "java/lang/String" "value" "[B" (.ref t) a A s s.heap ∧ ∃ (cell : Cell) (c : ClassId) (k : Class), s.heap[a]? = some cell ∧ cell.cls = c ∧ s.vm.findClass "java/lang/String" = some c ∧ s.vm.classes[c]? = some k ∧ cell.vm.isStatics = false ∧ (k.kind = .ordinary → cell.slots.size = k.instanceTypes.size) := by
  obtain ⟨a, c, cA, kA, q1, q2, q3, q4, q5, q6, q7⟩ := Cond.exactly_spec (args := #[Value.ref b]) (first := s) (o := none) (s := s) (idx := []) (t := .string "ContourLabels$TextReader" 57) (cls := "java/lang/String") (hs _ (by decide +kernel))
  obtain ⟨t, ht, h⟩ := va_Tof (args := #[Value.ref b]) (s := s) (tm := .field (.string "ContourLabels$TextReader" 57) "java/lang/String" "value" "[B") (ty := .byte) (N := 8) (f := fun j => .int (kI (([110, 115, 119, 108, 117, 98, 97, 103] : List Int).getD j 0))) (A := A) (by decide) (hs _ (by decide +kernel)) (va_eqt (z := Int32.ofNat 8) (hs _ (by decide +kernel))) (fun j hj => va_eqt (hs _ (mem_lt j hj))) hA
  exact ⟨a, t, vk_R.of (A := #[Value.ref b]) (hT _ (by decide +kernel)) q1, h, vk_OFof q1 (va_eqt (hs _ (by decide +kernel))) hA, vk_OFof q1 ht hA, cA, c, kA, q3, q6, q2, q4, q5, q7⟩
theorem mem_ls : ∀ q ∈ kLmL, (Cond.lambdaSite q.1 q.2.1 q.2.2.1 q.2.2.2) ∈ flatC (Jvm.Cond.and given_1 narrow_1) := by decide +kernel
theorem st_ls (hs : stG s b) : ∀ i : Nat, ∃ (c : ClassId) (one : Option Addr), ∀ q, kLmL[i]? = some q → s.lambdaAt? q.1 q.2.1 q.2.2.1 q.2.2.2 = some (c, one) := by
  intro i
  cases hq : kLmL[i]? with
  | none => exact ⟨0, none, fun q h => by cases h⟩
  | some q =>
    obtain ⟨c, one, h⟩ := Cond.lambdaSite_spec (args := #[Value.ref b]) (first := s) (o := none) (s := s) (idx := []) (hs _ (mem_ls q (List.mem_of_getElem? hq)))
    exact ⟨c, one, fun q' h' => by cases h'; exact h⟩
theorem mem_fw : ∀ q ∈ kFwL, Cond.declares q.2.1 ∈ lw_tbl ∧ Cond.publicMethod q.2.2 ∈ lw_tbl ∧ Cond.unhidden q.1 q.2.1.name q.2.1.desc ∈ lw_tbl ∧ Cond.castable q.1 q.2.1.cls ∈ lw_tbl := by decide +kernel
theorem mem_fi : ∀ q ∈ kFwL, Cond.interfaceMethod q.2.1.cls q.2.1.cls q.2.1.name q.2.1.desc ∈ lw_tbl := by decide +kernel
theorem mem_nc : ∀ q ∈ kNcL, Cond.not (.castable q.1 q.2) ∈ flatC (Jvm.Cond.and given_1 narrow_1) := by decide +kernel
theorem mem_ao : ∀ q ∈ kAoL, Cond.arrayOver (.object q) ∈ lw_tbl := by decide +kernel
theorem mem_if : ∀ x ∈ kIfL, Cond.declares x ∈ lw_tbl ∧ Cond.interfaceMethod x.cls x.cls x.name x.desc ∈ lw_tbl := by decide +kernel
theorem st_fw (hT : stT s b) (hs : stG s b) : kFwS s :=
  ⟨fun q hq => va_Fw.of (A := #[Value.ref b]) (hT _ (mem_fw q hq).1) (hT _ (mem_fi q hq)) (hT _ (mem_fw q hq).2.1) (hT _ (mem_fw q hq).2.2.1) (hT _ (mem_fw q hq).2.2.2), fun q hq => va_Nc.of (args := #[Value.ref b]) (hs _ (mem_nc q hq)), fun q hq => va_AO.of (A := #[Value.ref b]) (hT _ (mem_ao q hq))⟩
theorem st_if (hT : stT s b) : ∀ x ∈ kIfL, kIf x s := fun x hx => ⟨hT _ (mem_if x hx).1, hT _ (mem_if x hx).2⟩
theorem st_nw (hT : stT s b) : ∀ w ∈ lw_tbl, kw_ok w = true → va_Nw w s := fun w hw g => va_Nw.of (by cases w <;> first | rfl | cases g) (hT w hw)
theorem st_ar (hT : stT s b) : ∀ t : Nat, ∃ cA : ClassId, ∀ ty : FieldType, ([.int, .byte, .long, .double, .object "java/lang/Object", .object "ContourLabels$Reason", .object "ContourLabels$Order"] : List FieldType)[t]? = some ty → ArrOfT s cA ty ∧ va_RA s cA ty := by
  have pr : ∀ ty : FieldType, (∀ C, ty ≠ .object C) → Cond.arrayClass ty ∈ lw_tbl → ∃ cA : ClassId, ArrOfT s cA ty ∧ s.vm.findClass ("[" ++ ty.toString) = some cA := fun ty _ h => by
    obtain ⟨c, k, comp, h1, h2, h3⟩ := Cond.arrayClass_spec (args := #[Value.ref b]) (first := s) (o := none) (s := s) (idx := []) (hT _ h)
    exact ⟨c, fun N z => ⟨(fun k h => by cases h), k, h2, comp, h3⟩, h1⟩
  have ob : ∀ C : String, Cond.arrayOver (.object C) ∈ lw_tbl → ∃ cA : ClassId, ArrOfT s cA (.object C) ∧ va_RA s cA (.object C) := fun C h => by
    obtain ⟨comp, c, k, h1, -, h3, h4, h5⟩ := Cond.arrayOver_spec (args := #[Value.ref b]) (first := s) (o := none) (s := s) (idx := []) (hT _ h)
    exact ⟨c, fun N z => ⟨(fun k h => by cases h), k, h3, comp, h4⟩, k, comp, h3, h4, h1, h5⟩
  intro t
  match t with
  | 0 => obtain ⟨c, h1, h2⟩ := pr .int (fun C h => by cases h) (by decide +kernel); exact ⟨c, fun ty h => by cases h; exact ⟨h1, h2⟩⟩
  | 1 => obtain ⟨c, h1, h2⟩ := pr .byte (fun C h => by cases h) (by decide +kernel); exact ⟨c, fun ty h => by cases h; exact ⟨h1, h2⟩⟩
  | 2 => obtain ⟨c, h1, h2⟩ := pr .long (fun C h => by cases h) (by decide +kernel); exact ⟨c, fun ty h => by cases h; exact ⟨h1, h2⟩⟩
  | 3 => obtain ⟨c, h1, h2⟩ := pr .double (fun C h => by cases h) (by decide +kernel); exact ⟨c, fun ty h => by cases h; exact ⟨h1, h2⟩⟩
  | 4 => obtain ⟨c, h1, h2⟩ := ob "java/lang/Object" (by decide +kernel); exact ⟨c, fun ty h => by cases h; exact ⟨h1, h2⟩⟩
  | 5 => obtain ⟨c, h1, h2⟩ := ob "ContourLabels$Reason" (by decide +kernel); exact ⟨c, fun ty h => by cases h; exact ⟨h1, h2⟩⟩
  | 6 => obtain ⟨c, h1, h2⟩ := ob "ContourLabels$Order" (by decide +kernel); exact ⟨c, fun ty h => by cases h; exact ⟨h1, h2⟩⟩
  | t + 7 => exact ⟨0, fun ty h => by simp at h⟩
theorem st_all (hT : stT s b) : ∀ w ∈ lw_all, w.before #[Value.ref b] s = true := fun w hw => hT w (List.mem_filter.mp hw).1
theorem st_cl (hT : stT s b) : ∀ k : Nat, ∃ (c : ClassId) (i : Nat → Nat), ∀ q : vw_C, vwCl[k]? = some q → u_Kn s q.1 q.2.1 q.2.2 c i := by
  intro k
  match k with
  | 0 => obtain ⟨c, i, h⟩ := u_known (args := #[Value.ref b]) (s := s) (C := RX1) (T := TX1) (N := 4) (n := 4) (st_all hT) in_X1 (hT _ (by decide +kernel)); exact ⟨c, i, fun q hq => by cases hq; exact h⟩
  | 1 => obtain ⟨c, i, h⟩ := u_known (args := #[Value.ref b]) (s := s) (C := RX2) (T := TX2) (N := 2) (n := 2) (st_all hT) in_X2 (hT _ (by decide +kernel)); exact ⟨c, i, fun q hq => by cases hq; exact h⟩
  | 2 => obtain ⟨c, i, h⟩ := u_known (args := #[Value.ref b]) (s := s) (C := RX3) (T := TX3) (N := 13) (n := 13) (st_all hT) in_X3 (hT _ (by decide +kernel)); exact ⟨c, i, fun q hq => by cases hq; exact h⟩
  | 3 => obtain ⟨c, i, h⟩ := u_known (args := #[Value.ref b]) (s := s) (C := RX4) (T := TX4) (N := 6) (n := 6) (st_all hT) in_X4 (hT _ (by decide +kernel)); exact ⟨c, i, fun q hq => by cases hq; exact h⟩
  | 4 => obtain ⟨c, i, h⟩ := u_known (args := #[Value.ref b]) (s := s) (C := RX5) (T := kT0) (N := 0) (n := 0) (st_all hT) in_X5 (hT _ (by decide +kernel)); exact ⟨c, i, fun q hq => by cases hq; exact h⟩
  | 5 => obtain ⟨c, i, h⟩ := u_known (args := #[Value.ref b]) (s := s) (C := RX6) (T := kT0) (N := 0) (n := 0) (st_all hT) in_X6 (hT _ (by decide +kernel)); exact ⟨c, i, fun q hq => by cases hq; exact h⟩
  | 6 => obtain ⟨c, i, h⟩ := u_known (args := #[Value.ref b]) (s := s) (C := RX7) (T := kT0) (N := 0) (n := 0) (st_all hT) in_X7 (hT _ (by decide +kernel)); exact ⟨c, i, fun q hq => by cases hq; exact h⟩
  | 7 => obtain ⟨c, i, h⟩ := u_known (args := #[Value.ref b]) (s := s) (C := RX8) (T := TX8) (N := 3) (n := 3) (st_all hT) in_X8 (hT _ (by decide +kernel)); exact ⟨c, i, fun q hq => by cases hq; exact h⟩
  | 8 => obtain ⟨c, i, h⟩ := u_known (args := #[Value.ref b]) (s := s) (C := RX9) (T := TX9) (N := 5) (n := 5) (st_all hT) in_X9 (hT _ (by decide +kernel)); exact ⟨c, i, fun q hq => by cases hq; exact h⟩
  | 9 => obtain ⟨c, i, h⟩ := u_known (args := #[Value.ref b]) (s := s) (C := RJ2) (T := TJ2) (N := 3) (n := 3) (st_all hT) in_J2 (hT _ (by decide +kernel)); exact ⟨c, i, fun q hq => by cases hq; exact h⟩
  | 10 => obtain ⟨c, i, h⟩ := u_known (args := #[Value.ref b]) (s := s) (C := RJ3) (T := TJ3) (N := 3) (n := 3) (st_all hT) in_J3 (hT _ (by decide +kernel)); exact ⟨c, i, fun q hq => by cases hq; exact h⟩
  | 11 => obtain ⟨c, i, h⟩ := u_known (args := #[Value.ref b]) (s := s) (C := RJ5) (T := TJ5) (N := 4) (n := 4) (st_all hT) in_J5 (hT _ (by decide +kernel)); exact ⟨c, i, fun q hq => by cases hq; exact h⟩
  | 12 => obtain ⟨c, i, h⟩ := u_known (args := #[Value.ref b]) (s := s) (C := RJ6) (T := TJ6) (N := 4) (n := 4) (st_all hT) in_J6 (hT _ (by decide +kernel)); exact ⟨c, i, fun q hq => by cases hq; exact h⟩
  | 13 => obtain ⟨c, i, h⟩ := u_known (args := #[Value.ref b]) (s := s) (C := RJ21) (T := TJ21) (N := 4) (n := 4) (st_all hT) in_J21 (hT _ (by decide +kernel)); exact ⟨c, i, fun q hq => by cases hq; exact h⟩
  | 14 => obtain ⟨c, i, h⟩ := u_known (args := #[Value.ref b]) (s := s) (C := RJ23) (T := TJ23) (N := 1) (n := 1) (st_all hT) in_J23 (hT _ (by decide +kernel)); exact ⟨c, i, fun q hq => by cases hq; exact h⟩
  | 15 => obtain ⟨c, i, h⟩ := u_known (args := #[Value.ref b]) (s := s) (C := RJ28) (T := TJ28) (N := 9) (n := 9) (st_all hT) in_J28 (hT _ (by decide +kernel)); exact ⟨c, i, fun q hq => by cases hq; exact h⟩
  | 16 => obtain ⟨c, i, h⟩ := u_known (args := #[Value.ref b]) (s := s) (C := RJ29) (T := TJ29) (N := 6) (n := 6) (st_all hT) in_J29 (hT _ (by decide +kernel)); exact ⟨c, i, fun q hq => by cases hq; exact h⟩
  | 17 => obtain ⟨c, i, h⟩ := u_known (args := #[Value.ref b]) (s := s) (C := RJ31) (T := TJ31) (N := 1) (n := 1) (st_all hT) in_J31 (hT _ (by decide +kernel)); exact ⟨c, i, fun q hq => by cases hq; exact h⟩
  | 18 => obtain ⟨c, i, h⟩ := u_known (args := #[Value.ref b]) (s := s) (C := RJ33) (T := TJ33) (N := 4) (n := 4) (st_all hT) in_J33 (hT _ (by decide +kernel)); exact ⟨c, i, fun q hq => by cases hq; exact h⟩
  | k + 19 => exact ⟨0, fun _ => 0, fun q hq => by simp [vwCl] at hq⟩
end KST

