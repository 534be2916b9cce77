/-! MATH 33: inherited and abstract methods -/
theorem lw_U {own C owner : String} {idx : Nat} {x y : MethodName} {b : ByteArray} {L : Nat} {r : Option FieldType} (h1 : Cond.methodLink own idx x ∈ lw_all) (h2 : Cond.sameMethod x.cls owner x.name x.desc ∈ lw_all) (h3 : Cond.selects C x y ∈ lw_all) (h4 : Cond.instanceMethod y ∈ lw_all) (h5 : Cond.initialized y.cls ∈ lw_all) (h6 : Cond.code y b L r ∈ lw_all) : GoodIn lw_all (va_wsU own idx C owner x y (ws_ y b L r)) := by
  refine lw_app ?_ (lw_meth h6)
  intro w hw
  simp only [List.mem_cons, List.not_mem_nil, or_false] at hw
  rcases hw with e | e | e | e | e
  · rw [e]; exact h1
  · rw [e]; exact h2
  · rw [e]; exact h3
  · rw [e]; exact h4
  · rw [e]; exact h5
set_option maxHeartbeats 4000000 in
set_option maxRecDepth 100000 in
theorem m_J21_isEmpty (l : Launch) (D : kG) (H : Heap) (pq : Nat) (es : Nat) (cm : Nat) (mc : Int) (n : Nat) (hO_pq : kO D H pq 13 [.ref es, .int (kI ((n : Nat) : Int)), .ref cm, .int (kI (mc))]) (hn9 : n ≤ 1000) : Met l yJ0_isEmpty (ws_ yJ0_isEmpty cJ0_isEmpty 1 (some .boolean)) ({ frames := 1, cells := 0, slots := 0, locals := 20 } : Room) (kPre D H [.ref pq]) (kQb (fun (r : Bool) H' => H' = H ∧ r = decide (n = 0)) kNO) (0) (0) (kNO) := by
  refine Met.ofW (cc := cJ0_isEmpty) (maxL := 1) (ret := (some .boolean)) (by decide) rfl ?_
  intro p e s m args below meth c s₁ B hml hv
  obtain ⟨rfl, hH, hK⟩ := hv
  subst hH
  have hx := B.exec
  have hb := B.bytes
  have hr := B.returns
  have hts := atoms_spec (ws := ws_ yJ0_isEmpty cJ0_isEmpty 1 (some .boolean)) B.pre
  have hts : ∀ w ∈ lw_all, w.before _ s = true := fun w h => hts w (List.mem_cons_of_mem _ h)
  have hown : s.vm.findClass RJ0 = some m.cls := findClass_of_methodNamed B.named
  have hlk := B.notSynchronized
  have hS : va_S kNO s.heap s.heap [] := va_S.rf
  have hB : ∀ q, kNO q → kBase D ≤ q := fun _ h => h.elim
  have hl := lv_entry ([.ref pq]) (n := 1) (Nat.le_of_ble_eq_true rfl)
  rw [lg_entry_eq]
  generalize (lg_sl ([.ref pq]) ++ List.replicate (1 - (lg_sl ([.ref pq])).length) Slot.unset).toArray = ls at hl ⊢
  have hl : lv_has ls 1 [(0, .ref pq)] := hl
  refine lv_aload_n hx hb dJ0_isEmpty_0 rfl (lv_at hl 0 rfl) ?_
  refine kx_ci0 (va_runU (As := []) (rest := []) ⟨hx, hb, hml, hown, hts⟩ (m_J21_size l D s.heap pq es cm mc n hO_pq ) (va_cwA (C := RJ21) (owner := "java/util/AbstractCollection") (x := ({ cls := "java/util/AbstractCollection", name := "size", desc := "()I" } : Jvm.MethodName)) 0 hts (lw_U q1234 q1236 q1239 q1240 q107 q1241) rfl rfl rfl (hK.w q1235 rfl) (by decide +kernel) ⟨Nat.le_of_ble_eq_true rfl, Nat.le_of_ble_eq_true rfl⟩) (kx_pv hK hS hB (kx_rc hK hO_pq (C := RJ21) (T := TJ21) (N := 4) rfl)) rfl rfl hl.1 rfl (lv_room (Nat.le_of_ble_eq_true rfl)) dJ0_isEmpty_1 ⟨by first | exact Nat.le_of_ble_eq_true rfl | omega | (show _ ≤ _; omega) | (dsimp only [headSpec]; omega), by first | exact Nat.le_of_ble_eq_true rfl | omega | (show _ ≤ _; omega) | (dsimp only [headSpec]; omega)⟩) hS (fun z_4 locs_1 hz_3 hS_2 => ?_)
  subst z_4
  refine kx_if_ne (x := ((n : Nat) : Int)) (tgt := 11) hx hb dJ0_isEmpty_4 (by decide) (by omega) (by omega) (fun c_4_5 => ?_) (fun c_4_5 => ?_)
  · -- taken at 4
    refine kx_iconst hx hb dJ0_isEmpty_11 ?_
    exact kx_zret (z := false) hx hb hr hlk (⟨rfl, by first | rfl | exact (decide_eq_true (by omega)).symm | exact (decide_eq_false (by omega)).symm | grind⟩) hS_2 dJ0_isEmpty_12
  · -- not taken at 4
    refine kx_iconst hx hb dJ0_isEmpty_7 ?_
    refine lv_goto (tgt := 12) hx hb dJ0_isEmpty_8 (by decide) ?_
    exact kx_zret (z := true) hx hb hr hlk (⟨rfl, by first | rfl | exact (decide_eq_true (by omega)).symm | exact (decide_eq_false (by omega)).symm | grind⟩) hS_2 dJ0_isEmpty_12

