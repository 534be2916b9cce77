/-! MATH 48: nodes of a tree in the heap -/
theorem op_cases (x : Option Nat) : x = none ∨ ∃ v, x = some v := by cases x <;> simp
theorem op_fit {C : String} (x : Option Nat) : fits (.object C) (va_rf x) = true := by cases x <;> rfl
def kTN (D : kG) (H : Heap) (M : List Nat) (kf vf : Nat → Nat) (lf rt pr : Nat → Option Nat) (co : Nat → Bool) : Prop := ∀ a, a ∈ M → kBase D ≤ a ∧ kO D H a 16 [.ref (kf a), .ref (vf a), va_rf (lf a), va_rf (rt a), va_rf (pr a), .int (kI (kb (co a)))]
theorem kTN.ex {D : kG} {H H1 : Heap} {M : List Nat} {kf vf : Nat → Nat} {lf rt pr : Nat → Option Nat} {co : Nat → Bool} (h : kTN D H M kf vf lf rt pr co) (q : kEx H H1) : kTN D H1 M kf vf lf rt pr co := fun a ha => ⟨(h a ha).1, (h a ha).2.ex q⟩
theorem kTN.up {D : kG} {H H1 : Heap} {M : List Nat} {b : Nat} {kf vf : Nat → Nat} {lf rt pr : Nat → Option Nat} {co : Nat → Bool} (h : kTN D H M kf vf lf rt pr co) (q : kUp H b H1) (hb : b ∉ M) : kTN D H1 M kf vf lf rt pr co := fun a ha => ⟨(h a ha).1, (h a ha).2.up q (fun e => hb (by rw [← e]; exact ha))⟩
theorem kTN.fr {D : kG} {H H1 : Heap} {M : List Nat} {A : Nat → Prop} {kf vf : Nat → Nat} {lf rt pr : Nat → Option Nat} {co : Nat → Bool} (h : kTN D H M kf vf lf rt pr co) (q : kFr A H H1) (hb : ∀ a, a ∈ M → ¬ A a) : kTN D H1 M kf vf lf rt pr co := fun a ha => ⟨(h a ha).1, (h a ha).2.fr q (hb a ha)⟩
theorem kTN.set {D : kG} {H H1 : Heap} {M : List Nat} {a : Nat} {kf vf : Nat → Nat} {lf rt pr lf' rt' pr' : Nat → Option Nat} {co co' : Nat → Bool} (h : kTN D H M kf vf lf rt pr co) (q : kUp H a H1) (hO : kO D H1 a 16 [.ref (kf a), .ref (vf a), va_rf (lf' a), va_rf (rt' a), va_rf (pr' a), .int (kI (kb (co' a)))]) (hx : ∀ x, x ≠ a → lf' x = lf x ∧ rt' x = rt x ∧ pr' x = pr x ∧ co' x = co x) : kTN D H1 M kf vf lf' rt' pr' co' := by
  intro x hx'
  by_cases e : x = a
  · subst e
    exact ⟨(h x hx').1, hO⟩
  · obtain ⟨e1, e2, e3, e4⟩ := hx x e
    rw [e1, e2, e3, e4]
    exact ⟨(h x hx').1, (h x hx').2.up q e⟩
theorem kTN.lf {D : kG} {H H1 : Heap} {M : List Nat} {a : Nat} {v : Option Nat} {kf vf : Nat → Nat} {lf rt pr : Nat → Option Nat} {co : Nat → Bool} (h : kTN D H M kf vf lf rt pr co) (q : kUp H a H1) (hO : kO D H1 a 16 [.ref (kf a), .ref (vf a), va_rf v, va_rf (rt a), va_rf (pr a), .int (kI (kb (co a)))]) : kTN D H1 M kf vf (kupq lf a v) rt pr co := h.set q (by rw [kupq_self]; exact hO) (fun x hx => ⟨kupq_ne hx, rfl, rfl, rfl⟩)
theorem kTN.rt {D : kG} {H H1 : Heap} {M : List Nat} {a : Nat} {v : Option Nat} {kf vf : Nat → Nat} {lf rt pr : Nat → Option Nat} {co : Nat → Bool} (h : kTN D H M kf vf lf rt pr co) (q : kUp H a H1) (hO : kO D H1 a 16 [.ref (kf a), .ref (vf a), va_rf (lf a), va_rf v, va_rf (pr a), .int (kI (kb (co a)))]) : kTN D H1 M kf vf lf (kupq rt a v) pr co := h.set q (by rw [kupq_self]; exact hO) (fun x hx => ⟨rfl, kupq_ne hx, rfl, rfl⟩)
theorem kTN.pr {D : kG} {H H1 : Heap} {M : List Nat} {a : Nat} {v : Option Nat} {kf vf : Nat → Nat} {lf rt pr : Nat → Option Nat} {co : Nat → Bool} (h : kTN D H M kf vf lf rt pr co) (q : kUp H a H1) (hO : kO D H1 a 16 [.ref (kf a), .ref (vf a), va_rf (lf a), va_rf (rt a), va_rf v, .int (kI (kb (co a)))]) : kTN D H1 M kf vf lf rt (kupq pr a v) co := h.set q (by rw [kupq_self]; exact hO) (fun x hx => ⟨rfl, rfl, kupq_ne hx, rfl⟩)
theorem kTN.co {D : kG} {H H1 : Heap} {M : List Nat} {a : Nat} {v : Bool} {kf vf : Nat → Nat} {lf rt pr : Nat → Option Nat} {co : Nat → Bool} (h : kTN D H M kf vf lf rt pr co) (q : kUp H a H1) (hO : kO D H1 a 16 [.ref (kf a), .ref (vf a), va_rf (lf a), va_rf (rt a), va_rf (pr a), .int (kI (kb v))]) : kTN D H1 M kf vf lf rt pr (kup co a v) := h.set q (by rw [show kup co a v a = v from if_pos rfl]; exact hO) (fun x hx => ⟨rfl, rfl, rfl, if_neg hx⟩)
set_option maxHeartbeats 4000000 in
set_option maxRecDepth 100000 in
theorem m_J28_parentOf (l : Launch) (D : kG) (H : Heap) (M : List Nat) (kf : Nat → Nat) (vf : Nat → Nat) (lf : Nat → Option Nat) (rt : Nat → Option Nat) (pr : Nat → Option Nat) (co : Nat → Bool) (x : Nat) (hP_kTN_M : kTN D H M kf vf lf rt pr co) (hxM : x ∈ M) : Met l yJ28_parentOf (ws_ yJ28_parentOf cJ28_parentOf 1 (some (.object "java/util/TreeMap$Entry"))) ({ frames := 0, cells := 0, slots := 0, locals := 0 } : Room) (kPre D H [.ref x]) (kQq (fun (r : Option Nat) H' => H' = H ∧ r = pr x) kNO) (0) (0) (kNO) := by
  refine Met.ofW (cc := cJ28_parentOf) (maxL := 1) (ret := (some (.object "java/util/TreeMap$Entry"))) (by decide) rfl ?_
  intro p e s m args below meth c s₁ B hml hv
  obtain ⟨rfl, hH, hK⟩ := hv
  subst hH
  have hx := B.exec
  have hb := B.bytes
  have hr := B.returns
  have hts := atoms_spec (ws := ws_ yJ28_parentOf cJ28_parentOf 1 (some (.object "java/util/TreeMap$Entry"))) B.pre
  have hts : ∀ w ∈ lw_all, w.before _ s = true := fun w h => hts w (List.mem_cons_of_mem _ h)
  have hown : s.vm.findClass RJ28 = some m.cls := findClass_of_methodNamed B.named
  have hlk := B.notSynchronized
  have hS : va_S kNO s.heap s.heap [] := va_S.rf
  have hB : ∀ q, kNO q → kBase D ≤ q := fun _ h => h.elim
  have hl := lv_entry ([.ref x]) (n := 1) (Nat.le_of_ble_eq_true rfl)
  rw [lg_entry_eq]
  generalize (lg_sl ([.ref x]) ++ List.replicate (1 - (lg_sl ([.ref x])).length) Slot.unset).toArray = ls at hl ⊢
  have hl : lv_has ls 1 [(0, .ref x)] := hl
  obtain ⟨hBN_2, hN_1⟩ := hP_kTN_M x (hxM)
  refine lv_aload_n hx hb dJ28_parentOf_0 rfl (lv_at hl 0 rfl) ?_
  refine lv_ifnonnull (tgt := 8) hx hb dJ28_parentOf_1 (by decide) ?_
  refine lv_aload_n hx hb dJ28_parentOf_8 rfl (lv_at hl 0 rfl) ?_
  refine kx_get (v := va_rf (pr x)) (C := RJ29) (T := TJ29) (N := 6) hx hb hts in_J29 hown hK hN_1 rfl 4 (by decide) q856 (fun _ h9 => h9) rfl dJ28_parentOf_9 ?_
  exact kx_aretq hx hb hr (by first | exact Or.inl ⟨_, rfl⟩ | exact Or.inr ⟨_, rfl⟩) hlk (pr x) rfl (⟨rfl, by rfl⟩) hS dJ28_parentOf_12

set_option maxHeartbeats 4000000 in
set_option maxRecDepth 100000 in
theorem m_J28_parentOf_n (l : Launch) (D : kG) (H : Heap)  : Met l yJ28_parentOf (ws_ yJ28_parentOf cJ28_parentOf 1 (some (.object "java/util/TreeMap$Entry"))) ({ frames := 0, cells := 0, slots := 0, locals := 0 } : Room) (kPre D H [.null]) (kQq (fun (r : Option Nat) H' => H' = H ∧ r = none) kNO) (0) (0) (kNO) := by
  refine Met.ofW (cc := cJ28_parentOf) (maxL := 1) (ret := (some (.object "java/util/TreeMap$Entry"))) (by decide) rfl ?_
  intro p e s m args below meth c s₁ B hml hv
  obtain ⟨rfl, hH, hK⟩ := hv
  subst hH
  have hx := B.exec
  have hb := B.bytes
  have hr := B.returns
  have hts := atoms_spec (ws := ws_ yJ28_parentOf cJ28_parentOf 1 (some (.object "java/util/TreeMap$Entry"))) B.pre
  have hts : ∀ w ∈ lw_all, w.before _ s = true := fun w h => hts w (List.mem_cons_of_mem _ h)
  have hown : s.vm.findClass RJ28 = some m.cls := findClass_of_methodNamed B.named
  have hlk := B.notSynchronized
  have hS : va_S kNO s.heap s.heap [] := va_S.rf
  have hB : ∀ q, kNO q → kBase D ≤ q := fun _ h => h.elim
  have hl := lv_entry ([.null]) (n := 1) (Nat.le_of_ble_eq_true rfl)
  rw [lg_entry_eq]
  generalize (lg_sl ([.null]) ++ List.replicate (1 - (lg_sl ([.null])).length) Slot.unset).toArray = ls at hl ⊢
  have hl : lv_has ls 1 [(0, .null)] := hl
  refine lv_aload_nN hx hb dJ28_parentOf_0 rfl (lv_at hl 0 rfl) ?_
  refine lv_ifnonnullN hx hb dJ28_parentOf_1 ?_
  refine lv_null hx hb dJ28_parentOf_4 ?_
  refine lv_goto (tgt := 12) hx hb dJ28_parentOf_5 (by decide) ?_
  exact kx_aretq hx hb hr (by first | exact Or.inl ⟨_, rfl⟩ | exact Or.inr ⟨_, rfl⟩) hlk (none) rfl (⟨rfl, by rfl⟩) hS dJ28_parentOf_12

set_option maxHeartbeats 4000000 in
set_option maxRecDepth 100000 in
theorem m_J28_leftOf (l : Launch) (D : kG) (H : Heap) (M : List Nat) (kf : Nat → Nat) (vf : Nat → Nat) (lf : Nat → Option Nat) (rt : Nat → Option Nat) (pr : Nat → Option Nat) (co : Nat → Bool) (x : Nat) (hP_kTN_M : kTN D H M kf vf lf rt pr co) (hxM : x ∈ M) : Met l yJ28_leftOf (ws_ yJ28_leftOf cJ28_leftOf 1 (some (.object "java/util/TreeMap$Entry"))) ({ frames := 0, cells := 0, slots := 0, locals := 0 } : Room) (kPre D H [.ref x]) (kQq (fun (r : Option Nat) H' => H' = H ∧ r = lf x) kNO) (0) (0) (kNO) := by
  refine Met.ofW (cc := cJ28_leftOf) (maxL := 1) (ret := (some (.object "java/util/TreeMap$Entry"))) (by decide) rfl ?_
  intro p e s m args below meth c s₁ B hml hv
  obtain ⟨rfl, hH, hK⟩ := hv
  subst hH
  have hx := B.exec
  have hb := B.bytes
  have hr := B.returns
  have hts := atoms_spec (ws := ws_ yJ28_leftOf cJ28_leftOf 1 (some (.object "java/util/TreeMap$Entry"))) B.pre
  have hts : ∀ w ∈ lw_all, w.before _ s = true := fun w h => hts w (List.mem_cons_of_mem _ h)
  have hown : s.vm.findClass RJ28 = some m.cls := findClass_of_methodNamed B.named
  have hlk := B.notSynchronized
  have hS : va_S kNO s.heap s.heap [] := va_S.rf
  have hB : ∀ q, kNO q → kBase D ≤ q := fun _ h => h.elim
  have hl := lv_entry ([.ref x]) (n := 1) (Nat.le_of_ble_eq_true rfl)
  rw [lg_entry_eq]
  generalize (lg_sl ([.ref x]) ++ List.replicate (1 - (lg_sl ([.ref x])).length) Slot.unset).toArray = ls at hl ⊢
  have hl : lv_has ls 1 [(0, .ref x)] := hl
  obtain ⟨hBN_2, hN_1⟩ := hP_kTN_M x (hxM)
  refine lv_aload_n hx hb dJ28_leftOf_0 rfl (lv_at hl 0 rfl) ?_
  refine lv_ifnonnull (tgt := 8) hx hb dJ28_leftOf_1 (by decide) ?_
  refine lv_aload_n hx hb dJ28_leftOf_8 rfl (lv_at hl 0 rfl) ?_
  refine kx_get (v := va_rf (lf x)) (C := RJ29) (T := TJ29) (N := 6) hx hb hts in_J29 hown hK hN_1 rfl 2 (by decide) q853 (fun _ h9 => h9) rfl dJ28_leftOf_9 ?_
  exact kx_aretq hx hb hr (by first | exact Or.inl ⟨_, rfl⟩ | exact Or.inr ⟨_, rfl⟩) hlk (lf x) rfl (⟨rfl, by rfl⟩) hS dJ28_leftOf_12

set_option maxHeartbeats 4000000 in
set_option maxRecDepth 100000 in
theorem m_J28_leftOf_n (l : Launch) (D : kG) (H : Heap)  : Met l yJ28_leftOf (ws_ yJ28_leftOf cJ28_leftOf 1 (some (.object "java/util/TreeMap$Entry"))) ({ frames := 0, cells := 0, slots := 0, locals := 0 } : Room) (kPre D H [.null]) (kQq (fun (r : Option Nat) H' => H' = H ∧ r = none) kNO) (0) (0) (kNO) := by
  refine Met.ofW (cc := cJ28_leftOf) (maxL := 1) (ret := (some (.object "java/util/TreeMap$Entry"))) (by decide) rfl ?_
  intro p e s m args below meth c s₁ B hml hv
  obtain ⟨rfl, hH, hK⟩ := hv
  subst hH
  have hx := B.exec
  have hb := B.bytes
  have hr := B.returns
  have hts := atoms_spec (ws := ws_ yJ28_leftOf cJ28_leftOf 1 (some (.object "java/util/TreeMap$Entry"))) B.pre
  have hts : ∀ w ∈ lw_all, w.before _ s = true := fun w h => hts w (List.mem_cons_of_mem _ h)
  have hown : s.vm.findClass RJ28 = some m.cls := findClass_of_methodNamed B.named
  have hlk := B.notSynchronized
  have hS : va_S kNO s.heap s.heap [] := va_S.rf
  have hB : ∀ q, kNO q → kBase D ≤ q := fun _ h => h.elim
  have hl := lv_entry ([.null]) (n := 1) (Nat.le_of_ble_eq_true rfl)
  rw [lg_entry_eq]
  generalize (lg_sl ([.null]) ++ List.replicate (1 - (lg_sl ([.null])).length) Slot.unset).toArray = ls at hl ⊢
  have hl : lv_has ls 1 [(0, .null)] := hl
  refine lv_aload_nN hx hb dJ28_leftOf_0 rfl (lv_at hl 0 rfl) ?_
  refine lv_ifnonnullN hx hb dJ28_leftOf_1 ?_
  refine lv_null hx hb dJ28_leftOf_4 ?_
  refine lv_goto (tgt := 12) hx hb dJ28_leftOf_5 (by decide) ?_
  exact kx_aretq hx hb hr (by first | exact Or.inl ⟨_, rfl⟩ | exact Or.inr ⟨_, rfl⟩) hlk (none) rfl (⟨rfl, by rfl⟩) hS dJ28_leftOf_12

set_option maxHeartbeats 4000000 in
set_option maxRecDepth 100000 in
theorem m_J28_rightOf (l : Launch) (D : kG) (H : Heap) (M : List Nat) (kf : Nat → Nat) (vf : Nat → Nat) (lf : Nat → Option Nat) (rt : Nat → Option Nat) (pr : Nat → Option Nat) (co : Nat → Bool) (x : Nat) (hP_kTN_M : kTN D H M kf vf lf rt pr co) (hxM : x ∈ M) : Met l yJ28_rightOf (ws_ yJ28_rightOf cJ28_rightOf 1 (some (.object "java/util/TreeMap$Entry"))) ({ frames := 0, cells := 0, slots := 0, locals := 0 } : Room) (kPre D H [.ref x]) (kQq (fun (r : Option Nat) H' => H' = H ∧ r = rt x) kNO) (0) (0) (kNO) := by
  refine Met.ofW (cc := cJ28_rightOf) (maxL := 1) (ret := (some (.object "java/util/TreeMap$Entry"))) (by decide) rfl ?_
  intro p e s m args below meth c s₁ B hml hv
  obtain ⟨rfl, hH, hK⟩ := hv
  subst hH
  have hx := B.exec
  have hb := B.bytes
  have hr := B.returns
  have hts := atoms_spec (ws := ws_ yJ28_rightOf cJ28_rightOf 1 (some (.object "java/util/TreeMap$Entry"))) B.pre
  have hts : ∀ w ∈ lw_all, w.before _ s = true := fun w h => hts w (List.mem_cons_of_mem _ h)
  have hown : s.vm.findClass RJ28 = some m.cls := findClass_of_methodNamed B.named
  have hlk := B.notSynchronized
  have hS : va_S kNO s.heap s.heap [] := va_S.rf
  have hB : ∀ q, kNO q → kBase D ≤ q := fun _ h => h.elim
  have hl := lv_entry ([.ref x]) (n := 1) (Nat.le_of_ble_eq_true rfl)
  rw [lg_entry_eq]
  generalize (lg_sl ([.ref x]) ++ List.replicate (1 - (lg_sl ([.ref x])).length) Slot.unset).toArray = ls at hl ⊢
  have hl : lv_has ls 1 [(0, .ref x)] := hl
  obtain ⟨hBN_2, hN_1⟩ := hP_kTN_M x (hxM)
  refine lv_aload_n hx hb dJ28_rightOf_0 rfl (lv_at hl 0 rfl) ?_
  refine lv_ifnonnull (tgt := 8) hx hb dJ28_rightOf_1 (by decide) ?_
  refine lv_aload_n hx hb dJ28_rightOf_8 rfl (lv_at hl 0 rfl) ?_
  refine kx_get (v := va_rf (rt x)) (C := RJ29) (T := TJ29) (N := 6) hx hb hts in_J29 hown hK hN_1 rfl 3 (by decide) q854 (fun _ h9 => h9) rfl dJ28_rightOf_9 ?_
  exact kx_aretq hx hb hr (by first | exact Or.inl ⟨_, rfl⟩ | exact Or.inr ⟨_, rfl⟩) hlk (rt x) rfl (⟨rfl, by rfl⟩) hS dJ28_rightOf_12

set_option maxHeartbeats 4000000 in
set_option maxRecDepth 100000 in
theorem m_J28_rightOf_n (l : Launch) (D : kG) (H : Heap)  : Met l yJ28_rightOf (ws_ yJ28_rightOf cJ28_rightOf 1 (some (.object "java/util/TreeMap$Entry"))) ({ frames := 0, cells := 0, slots := 0, locals := 0 } : Room) (kPre D H [.null]) (kQq (fun (r : Option Nat) H' => H' = H ∧ r = none) kNO) (0) (0) (kNO) := by
  refine Met.ofW (cc := cJ28_rightOf) (maxL := 1) (ret := (some (.object "java/util/TreeMap$Entry"))) (by decide) rfl ?_
  intro p e s m args below meth c s₁ B hml hv
  obtain ⟨rfl, hH, hK⟩ := hv
  subst hH
  have hx := B.exec
  have hb := B.bytes
  have hr := B.returns
  have hts := atoms_spec (ws := ws_ yJ28_rightOf cJ28_rightOf 1 (some (.object "java/util/TreeMap$Entry"))) B.pre
  have hts : ∀ w ∈ lw_all, w.before _ s = true := fun w h => hts w (List.mem_cons_of_mem _ h)
  have hown : s.vm.findClass RJ28 = some m.cls := findClass_of_methodNamed B.named
  have hlk := B.notSynchronized
  have hS : va_S kNO s.heap s.heap [] := va_S.rf
  have hB : ∀ q, kNO q → kBase D ≤ q := fun _ h => h.elim
  have hl := lv_entry ([.null]) (n := 1) (Nat.le_of_ble_eq_true rfl)
  rw [lg_entry_eq]
  generalize (lg_sl ([.null]) ++ List.replicate (1 - (lg_sl ([.null])).length) Slot.unset).toArray = ls at hl ⊢
  have hl : lv_has ls 1 [(0, .null)] := hl
  refine lv_aload_nN hx hb dJ28_rightOf_0 rfl (lv_at hl 0 rfl) ?_
  refine lv_ifnonnullN hx hb dJ28_rightOf_1 ?_
  refine lv_null hx hb dJ28_rightOf_4 ?_
  refine lv_goto (tgt := 12) hx hb dJ28_rightOf_5 (by decide) ?_
  exact kx_aretq hx hb hr (by first | exact Or.inl ⟨_, rfl⟩ | exact Or.inr ⟨_, rfl⟩) hlk (none) rfl (⟨rfl, by rfl⟩) hS dJ28_rightOf_12

set_option maxHeartbeats 4000000 in
set_option maxRecDepth 100000 in
theorem m_J28_colorOf (l : Launch) (D : kG) (H : Heap) (M : List Nat) (kf : Nat → Nat) (vf : Nat → Nat) (lf : Nat → Option Nat) (rt : Nat → Option Nat) (pr : Nat → Option Nat) (co : Nat → Bool) (x : Nat) (hP_kTN_M : kTN D H M kf vf lf rt pr co) (hxM : x ∈ M) : Met l yJ28_colorOf (ws_ yJ28_colorOf cJ28_colorOf 1 (some .boolean)) ({ frames := 0, cells := 0, slots := 0, locals := 0 } : Room) (kPre D H [.ref x]) (kQb (fun (r : Bool) H' => H' = H ∧ r = co x) kNO) (0) (0) (kNO) := by
  refine Met.ofW (cc := cJ28_colorOf) (maxL := 1) (ret := (some .boolean)) (by decide) rfl ?_
  intro p e s m args below meth c s₁ B hml hv
  obtain ⟨rfl, hH, hK⟩ := hv
  subst hH
  have hx := B.exec
  have hb := B.bytes
  have hr := B.returns
  have hts := atoms_spec (ws := ws_ yJ28_colorOf cJ28_colorOf 1 (some .boolean)) B.pre
  have hts : ∀ w ∈ lw_all, w.before _ s = true := fun w h => hts w (List.mem_cons_of_mem _ h)
  have hown : s.vm.findClass RJ28 = some m.cls := findClass_of_methodNamed B.named
  have hlk := B.notSynchronized
  have hS : va_S kNO s.heap s.heap [] := va_S.rf
  have hB : ∀ q, kNO q → kBase D ≤ q := fun _ h => h.elim
  have hl := lv_entry ([.ref x]) (n := 1) (Nat.le_of_ble_eq_true rfl)
  rw [lg_entry_eq]
  generalize (lg_sl ([.ref x]) ++ List.replicate (1 - (lg_sl ([.ref x])).length) Slot.unset).toArray = ls at hl ⊢
  have hl : lv_has ls 1 [(0, .ref x)] := hl
  obtain ⟨hBN_2, hN_1⟩ := hP_kTN_M x (hxM)
  refine lv_aload_n hx hb dJ28_colorOf_0 rfl (lv_at hl 0 rfl) ?_
  refine lv_ifnonnull (tgt := 8) hx hb dJ28_colorOf_1 (by decide) ?_
  refine lv_aload_n hx hb dJ28_colorOf_8 rfl (lv_at hl 0 rfl) ?_
  refine kx_get (v := .int (kI (kb (co x)))) (C := RJ29) (T := TJ29) (N := 6) hx hb hts in_J29 hown hK hN_1 rfl 5 (by decide) q858 (fun _ h9 => h9) rfl dJ28_colorOf_9 ?_
  exact kx_zret (z := co x) hx hb hr hlk (⟨rfl, by rfl⟩) hS dJ28_colorOf_12

set_option maxHeartbeats 4000000 in
set_option maxRecDepth 100000 in
theorem m_J28_colorOf_n (l : Launch) (D : kG) (H : Heap)  : Met l yJ28_colorOf (ws_ yJ28_colorOf cJ28_colorOf 1 (some .boolean)) ({ frames := 0, cells := 0, slots := 0, locals := 0 } : Room) (kPre D H [.null]) (kQb (fun (r : Bool) H' => H' = H ∧ r = true) kNO) (0) (0) (kNO) := by
  refine Met.ofW (cc := cJ28_colorOf) (maxL := 1) (ret := (some .boolean)) (by decide) rfl ?_
  intro p e s m args below meth c s₁ B hml hv
  obtain ⟨rfl, hH, hK⟩ := hv
  subst hH
  have hx := B.exec
  have hb := B.bytes
  have hr := B.returns
  have hts := atoms_spec (ws := ws_ yJ28_colorOf cJ28_colorOf 1 (some .boolean)) B.pre
  have hts : ∀ w ∈ lw_all, w.before _ s = true := fun w h => hts w (List.mem_cons_of_mem _ h)
  have hown : s.vm.findClass RJ28 = some m.cls := findClass_of_methodNamed B.named
  have hlk := B.notSynchronized
  have hS : va_S kNO s.heap s.heap [] := va_S.rf
  have hB : ∀ q, kNO q → kBase D ≤ q := fun _ h => h.elim
  have hl := lv_entry ([.null]) (n := 1) (Nat.le_of_ble_eq_true rfl)
  rw [lg_entry_eq]
  generalize (lg_sl ([.null]) ++ List.replicate (1 - (lg_sl ([.null])).length) Slot.unset).toArray = ls at hl ⊢
  have hl : lv_has ls 1 [(0, .null)] := hl
  refine lv_aload_nN hx hb dJ28_colorOf_0 rfl (lv_at hl 0 rfl) ?_
  refine lv_ifnonnullN hx hb dJ28_colorOf_1 ?_
  refine kx_iconst hx hb dJ28_colorOf_4 ?_
  refine lv_goto (tgt := 12) hx hb dJ28_colorOf_5 (by decide) ?_
  exact kx_zret (z := true) hx hb hr hlk (⟨rfl, by rfl⟩) hS dJ28_colorOf_12

set_option maxHeartbeats 4000000 in
set_option maxRecDepth 100000 in
theorem m_J28_setColor (l : Launch) (D : kG) (H : Heap) (M : List Nat) (kf : Nat → Nat) (vf : Nat → Nat) (lf : Nat → Option Nat) (rt : Nat → Option Nat) (pr : Nat → Option Nat) (co : Nat → Bool) (x : Nat) (v : Bool) (hP_kTN_M : kTN D H M kf vf lf rt pr co) (hxM : x ∈ M) : Met l yJ28_setColor (ws_ yJ28_setColor cJ28_setColor 2 none) ({ frames := 0, cells := 0, slots := 0, locals := 0 } : Room) (kPre D H [.ref x, .int (kI (kb (v)))]) (kQv (fun H' => (kTN D H' M kf vf lf rt pr ((kup co x v)))) (fun q : Nat => q = x)) (0) (0) ((fun q : Nat => q = x)) := by
  refine Met.ofW (cc := cJ28_setColor) (maxL := 2) (ret := none) (by decide) rfl ?_
  intro p e s m args below meth c s₁ B hml hv
  obtain ⟨rfl, hH, hK⟩ := hv
  subst hH
  have hx := B.exec
  have hb := B.bytes
  have hr := B.returns
  have hts := atoms_spec (ws := ws_ yJ28_setColor cJ28_setColor 2 none) B.pre
  have hts : ∀ w ∈ lw_all, w.before _ s = true := fun w h => hts w (List.mem_cons_of_mem _ h)
  have hown : s.vm.findClass RJ28 = some m.cls := findClass_of_methodNamed B.named
  have hlk := B.notSynchronized
  have hS : va_S (fun q : Nat => q = x) s.heap s.heap [] := va_S.rf
  have hB : ∀ q, (fun q : Nat => q = x) q → kBase D ≤ q := fun q h => by (dsimp only at h; rw [h]; exact (hP_kTN_M x hxM).1)
  have hl := lv_entry ([.ref x, .int (kI (kb (v)))]) (n := 2) (Nat.le_of_ble_eq_true rfl)
  rw [lg_entry_eq]
  generalize (lg_sl ([.ref x, .int (kI (kb (v)))]) ++ List.replicate (2 - (lg_sl ([.ref x, .int (kI (kb (v)))])).length) Slot.unset).toArray = ls at hl ⊢
  have hl : lv_has ls 2 [(0, .ref x), (1, .int (kI (kb (v))))] := hl
  obtain ⟨hBN_2, hN_1⟩ := hP_kTN_M x (hxM)
  refine lv_aload_n hx hb dJ28_setColor_0 rfl (lv_at hl 0 rfl) ?_
  refine lv_ifnull hx hb dJ28_setColor_1 ?_
  refine lv_aload_n hx hb dJ28_setColor_4 rfl (lv_at hl 0 rfl) ?_
  refine lv_iload_n hx hb dJ28_setColor_5 rfl (lv_at hl 1 rfl) ?_
  refine kx_put (v := .int (kI (kb (v)))) (C := RJ29) (T := TJ29) (N := 6) hx hb hts in_J29 hown hK hN_1 rfl 5 (by decide) tyJ29 tyJ29_ok nmJ29 hS (by first | rfl | exact Or.inl rfl | exact Or.inr rfl | exact Or.inr (Or.inl rfl) | exact Or.inr (Or.inr rfl) | exact Or.inr (Or.inr (Or.inl rfl)) | exact Or.inr (Or.inr (Or.inr rfl)) | ((try dsimp only); (try simp only [kNW]); omega)) q858 (fun _ h9 => h9) rfl rfl (kb_narZ _) (kb_fitZ _) (Nat.le_of_ble_eq_true rfl) dJ28_setColor_6 (fun H_5 locs_6 hO_4 hU_3 hS_7 => ?_)
  have hO_4 : kO D H_5 x 16 [.ref (kf x), .ref (vf x), va_rf (lf x), va_rf (rt x), va_rf (pr x), .int (kI (kb (v)))] := hO_4
  have hzu_8 := hU_3.1
  have hTN_9 : kTN D H_5 M kf vf lf rt pr (kup co x v) := hP_kTN_M.co hU_3 hO_4
  exact kx_vret hx hb hr hlk (hTN_9) hS_7 dJ28_setColor_9

set_option maxHeartbeats 4000000 in
set_option maxRecDepth 100000 in
theorem m_J28_rotateLeft (l : Launch) (D : kG) (H : Heap) (mp : Nat) (ro : Option Nat) (sz : Nat) (mc : Int) (ks : Option Nat) (M : List Nat) (kf : Nat → Nat) (vf : Nat → Nat) (lf : Nat → Option Nat) (rt : Nat → Option Nat) (pr : Nat → Option Nat) (co : Nat → Bool) (np : Nat) (nr : Nat) (hO_mp : kO D H mp 15 [.null, .null, .null, va_rf (ro), .int (kI ((sz : Nat) : Int)), .int (kI (mc)), .null, va_rf (ks), .null]) (hP_kTN_M : kTN D H M kf vf lf rt pr co) (hpM : np ∈ M) (hrM : nr ∈ M) (hpr : np ≠ nr) (hrt : rt np = some nr) (hlm : ∀ m, lf nr = some m → m ∈ M) (hpg : ∀ g, pr np = some g → g ∈ M) (hmp : ∀ m, lf nr = some m → m ≠ np) (bs_mp : kBase D ≤ mp) (hmpM : mp ∉ M) : Met l yJ28_rotateLeft (ws_ yJ28_rotateLeft cJ28_rotateLeft 3 none) ({ frames := 0, cells := 0, slots := 0, locals := 0 } : Room) (kPre D H [.ref mp, .ref np]) (kQv (fun H' => ∃ (lf2 : Nat → Option Nat) (rt2 : Nat → Option Nat) (pr2 : Nat → Option Nat) (ro2 : Option Nat), (kO D H' mp 15 [.null, .null, .null, va_rf (ro2), .int (kI ((sz : Nat) : Int)), .int (kI (mc)), .null, va_rf (ks), .null]) ∧ (kTN D H' M kf vf lf2 rt2 pr2 co) ∧ (RotL lf rt pr ro np nr lf2 rt2 pr2 ro2)) (fun q : Nat => q = mp ∨ q ∈ M)) (0) (0) ((fun q : Nat => q = mp ∨ q ∈ M)) := by
  refine Met.ofW (cc := cJ28_rotateLeft) (maxL := 3) (ret := none) (by decide) rfl ?_
  intro p e s m args below meth c s₁ B hml hv
  obtain ⟨rfl, hH, hK⟩ := hv
  subst hH
  have hx := B.exec
  have hb := B.bytes
  have hr := B.returns
  have hts := atoms_spec (ws := ws_ yJ28_rotateLeft cJ28_rotateLeft 3 none) B.pre
  have hts : ∀ w ∈ lw_all, w.before _ s = true := fun w h => hts w (List.mem_cons_of_mem _ h)
  have hown : s.vm.findClass RJ28 = some m.cls := findClass_of_methodNamed B.named
  have hlk := B.notSynchronized
  have hS : va_S (fun q : Nat => q = mp ∨ q ∈ M) s.heap s.heap [] := va_S.rf
  have hB : ∀ q, (fun q : Nat => q = mp ∨ q ∈ M) q → kBase D ≤ q := fun q h => by (rcases h with h | h; (rw [h]; exact bs_mp); exact (hP_kTN_M q h).1)
  have hl := lv_entry ([.ref mp, .ref np]) (n := 3) (Nat.le_of_ble_eq_true rfl)
  rw [lg_entry_eq]
  generalize (lg_sl ([.ref mp, .ref np]) ++ List.replicate (3 - (lg_sl ([.ref mp, .ref np])).length) Slot.unset).toArray = ls at hl ⊢
  have hl : lv_has ls 3 [(0, .ref mp), (1, .ref np)] := hl
  obtain ⟨hBN_2, hN_1⟩ := hP_kTN_M np (hpM)
  refine lv_aload_n hx hb dJ28_rotateLeft_0 rfl (lv_at hl 1 rfl) ?_
  refine lv_ifnull hx hb dJ28_rotateLeft_1 ?_
  refine lv_aload_n hx hb dJ28_rotateLeft_4 rfl (lv_at hl 1 rfl) ?_
  refine kx_get (v := va_rf (rt np)) (C := RJ29) (T := TJ29) (N := 6) hx hb hts in_J29 hown hK hN_1 rfl 3 (by decide) q854 (fun _ h9 => h9) rfl dJ28_rotateLeft_5 ?_
  refine kx_eqq hx hb (b := nr) (hrt) ?_
  refine lv_astore_n (lv' := [(2, .ref nr), (0, .ref mp), (1, .ref np)]) hx hb dJ28_rotateLeft_8 rfl hl (by decide) rfl (fun ls hl => ?_)
  obtain ⟨hBN_4, hN_3⟩ := hP_kTN_M np (hpM)
  obtain ⟨hBN_6, hN_5⟩ := hP_kTN_M nr (hrM)
  refine lv_aload_n hx hb dJ28_rotateLeft_9 rfl (lv_at hl 2 rfl) ?_
  refine lv_aload_n hx hb dJ28_rotateLeft_10 rfl (lv_at hl 0 rfl) ?_
  refine kx_get (v := va_rf (lf nr)) (C := RJ29) (T := TJ29) (N := 6) hx hb hts in_J29 hown hK hN_5 rfl 2 (by decide) q853 (fun _ h9 => h9) rfl dJ28_rotateLeft_11 ?_
  refine kx_put (v := va_rf (lf nr)) (C := RJ29) (T := TJ29) (N := 6) hx hb hts in_J29 hown hK hN_3 rfl 3 (by decide) tyJ29 tyJ29_ok nmJ29 hS (Or.inr hpM) q854 (fun _ h9 => h9) rfl rfl rfl (op_fit _) (Nat.le_of_ble_eq_true rfl) dJ28_rotateLeft_14 (fun H_9 locs_10 hO_8 hU_7 hS_11 => ?_)
  have hO_8 : kO D H_9 np 16 [.ref (kf np), .ref (vf np), va_rf (lf np), va_rf (lf nr), va_rf (pr np), .int (kI (kb (co np)))] := hO_8
  have hzu_12 := hU_7.1
  obtain ⟨rt1, hE_14⟩ : ∃ f, f = (kupq rt np (lf nr)) := ⟨_, rfl⟩
  have hTN_13 : kTN D H_9 M kf vf lf rt1 pr co := by rw [hE_14]; exact hP_kTN_M.rt hU_7 hO_8
  obtain ⟨hBN_16, hN_15⟩ := hTN_13 nr (hrM)
  rcases op_cases (lf nr) with hm9 | ⟨nm, hm9⟩
  · -- hm9 n
    obtain ⟨pr1, hE1⟩ : ∃ f, f = pr := ⟨_, rfl⟩
    have hpp9 : pr1 np = pr np := by rw [hE1]
    have hTN_17 : kTN D H_9 M kf vf lf rt1 pr1 co := by rw [hE1]; exact hTN_13
    refine lv_aload_n hx hb dJ28_rotateLeft_17 rfl (lv_at hl 0 rfl) ?_
    refine kx_get (v := va_rf (lf nr)) (C := RJ29) (T := TJ29) (N := 6) hx hb hts in_J29 hown hK hN_15 rfl 2 (by decide) q853 (fun _ h9 => h9) rfl dJ28_rotateLeft_18 ?_
    refine kx_eqqN hx hb (hm9) ?_
    refine lv_ifnullN (tgt := 32) hx hb dJ28_rotateLeft_21 (by decide) ?_
    obtain ⟨hBN_19, hN_18⟩ := hTN_17 nr (hrM)
    obtain ⟨hBN_21, hN_20⟩ := hTN_17 np (hpM)
    refine lv_aload_n hx hb dJ28_rotateLeft_32 rfl (lv_at hl 0 rfl) ?_
    refine lv_aload_n hx hb dJ28_rotateLeft_33 rfl (lv_at hl 2 rfl) ?_
    refine kx_get (v := va_rf (pr1 np)) (C := RJ29) (T := TJ29) (N := 6) hx hb hts in_J29 hown hK hN_20 rfl 4 (by decide) q856 (fun _ h9 => h9) rfl dJ28_rotateLeft_34 ?_
    refine kx_put (v := va_rf (pr1 np)) (C := RJ29) (T := TJ29) (N := 6) hx hb hts in_J29 hown hK hN_18 rfl 4 (by decide) tyJ29 tyJ29_ok nmJ29 hS_11 (Or.inr hrM) q856 (fun _ h9 => h9) rfl rfl rfl (op_fit _) (Nat.le_of_ble_eq_true rfl) dJ28_rotateLeft_37 (fun H_24 locs_25 hO_23 hU_22 hS_26 => ?_)
    have hO_23 : kO D H_24 nr 16 [.ref (kf nr), .ref (vf nr), va_rf (lf nr), va_rf (rt1 nr), va_rf (pr1 np), .int (kI (kb (co nr)))] := hO_23
    have hzu_27 := hU_22.1
    obtain ⟨pr2, hE_29⟩ : ∃ f, f = (kupq pr1 nr (pr1 np)) := ⟨_, rfl⟩
    have hTN_28 : kTN D H_24 M kf vf lf rt1 pr2 co := by rw [hE_29]; exact hTN_17.pr hU_22 hO_23
    have h29 : pr2 np = pr1 np := by rw [hE_29]; exact kupq_ne hpr
    obtain ⟨hBN_31, hN_30⟩ := hTN_28 np (hpM)
    rcases op_cases (pr2 np) with hg9 | ⟨ng, hg9⟩
    · -- hg9 n
      refine lv_aload_n hx hb dJ28_rotateLeft_40 rfl (lv_at hl 2 rfl) ?_
      refine kx_get (v := va_rf (pr2 np)) (C := RJ29) (T := TJ29) (N := 6) hx hb hts in_J29 hown hK hN_30 rfl 4 (by decide) q856 (fun _ h9 => h9) rfl dJ28_rotateLeft_41 ?_
      refine kx_eqqN hx hb (hg9) ?_
      refine lv_ifnonnullN hx hb dJ28_rotateLeft_44 ?_
      refine lv_aload_n hx hb dJ28_rotateLeft_47 rfl (lv_at hl 1 rfl) ?_
      refine lv_aload_n hx hb dJ28_rotateLeft_48 rfl (lv_at hl 0 rfl) ?_
      have h_32 := hO_mp.up hU_7 (by first | assumption | exact Ne.symm (by assumption) | exact fun e9 => hmpM (by rw [e9]; assumption) | omega | (have h9 := hO_mp.lt; omega))
      have h_33 := h_32.up hU_22 (by first | assumption | exact Ne.symm (by assumption) | exact fun e9 => hmpM (by rw [e9]; assumption) | omega | (have h9 := h_32.lt; omega))
      refine kx_put (v := .ref nr) (C := RJ28) (T := TJ28) (N := 9) hx hb hts in_J28 hown hK h_33 rfl 3 (by decide) tyJ28 tyJ28_ok nmJ28 hS_26 (Or.inl rfl) q543 (fun _ h9 => h9) rfl rfl rfl rfl (Nat.le_of_ble_eq_true rfl) dJ28_rotateLeft_49 (fun H_36 locs_37 hO_35 hU_34 hS_38 => ?_)
      have hO_35 : kO D H_36 mp 15 [.null, .null, .null, .ref nr, .int (kI ((sz : Nat) : Int)), .int (kI (mc)), .null, va_rf (ks), .null] := hO_35
      have hzu_39 := hU_34.1
      refine lv_goto (tgt := 85) hx hb dJ28_rotateLeft_52 (by decide) ?_
      have h_40 := hTN_28.up hU_34 (by first | assumption | exact Ne.symm (by assumption) | exact fun e9 => hmpM (by rw [e9]; assumption) | omega | (have h9 := hTN_28.lt; omega))
      obtain ⟨hBN_42, hN_41⟩ := h_40 nr (hrM)
      refine lv_aload_n hx hb dJ28_rotateLeft_85 rfl (lv_at hl 0 rfl) ?_
      refine lv_aload_n hx hb dJ28_rotateLeft_86 rfl (lv_at hl 2 rfl) ?_
      refine kx_put (v := .ref np) (C := RJ29) (T := TJ29) (N := 6) hx hb hts in_J29 hown hK hN_41 rfl 2 (by decide) tyJ29 tyJ29_ok nmJ29 hS_38 (Or.inr hrM) q853 (fun _ h9 => h9) rfl rfl rfl rfl (Nat.le_of_ble_eq_true rfl) dJ28_rotateLeft_87 (fun H_45 locs_46 hO_44 hU_43 hS_47 => ?_)
      have hO_44 : kO D H_45 nr 16 [.ref (kf nr), .ref (vf nr), .ref np, va_rf (rt1 nr), va_rf (pr2 nr), .int (kI (kb (co nr)))] := hO_44
      have hzu_48 := hU_43.1
      obtain ⟨lf9, hE_50⟩ : ∃ f, f = (kupq lf nr (some np)) := ⟨_, rfl⟩
      have hTN_49 : kTN D H_45 M kf vf lf9 rt1 pr2 co := by rw [hE_50]; exact h_40.lf hU_43 hO_44
      obtain ⟨hBN_52, hN_51⟩ := hTN_49 np (hpM)
      refine lv_aload_n hx hb dJ28_rotateLeft_90 rfl (lv_at hl 2 rfl) ?_
      refine lv_aload_n hx hb dJ28_rotateLeft_91 rfl (lv_at hl 0 rfl) ?_
      refine kx_put (v := .ref nr) (C := RJ29) (T := TJ29) (N := 6) hx hb hts in_J29 hown hK hN_51 rfl 4 (by decide) tyJ29 tyJ29_ok nmJ29 hS_47 (Or.inr hpM) q856 (fun _ h9 => h9) rfl rfl rfl rfl (Nat.le_of_ble_eq_true rfl) dJ28_rotateLeft_92 (fun H_55 locs_56 hO_54 hU_53 hS_57 => ?_)
      have hO_54 : kO D H_55 np 16 [.ref (kf np), .ref (vf np), va_rf (lf9 np), va_rf (rt1 np), .ref nr, .int (kI (kb (co np)))] := hO_54
      have hzu_58 := hU_53.1
      obtain ⟨pr9, hE_60⟩ : ∃ f, f = (kupq pr2 np (some nr)) := ⟨_, rfl⟩
      have hTN_59 : kTN D H_55 M kf vf lf9 rt1 pr9 co := by rw [hE_60]; exact hTN_49.pr hU_53 hO_54
      have h_61 := hO_35.up hU_43 (by first | assumption | exact Ne.symm (by assumption) | exact fun e9 => hmpM (by rw [e9]; assumption) | omega | (have h9 := hO_35.lt; omega))
      have h_62 := h_61.up hU_53 (by first | assumption | exact Ne.symm (by assumption) | exact fun e9 => hmpM (by rw [e9]; assumption) | omega | (have h9 := h_61.lt; omega))
      exact kx_vret hx hb hr hlk (⟨lf9, rt1, pr9, (some nr), h_62, hTN_59, by exact ⟨pr1, by rw [hE1, hm9], by rw [hE_60, hE_29], Or.inl ⟨h29 ▸ hg9, rfl, by rw [hE_50], by rw [hE_14]⟩⟩⟩) hS_57 dJ28_rotateLeft_95
    · -- hg9 s
      have hgM : ng ∈ M := hpg ng (hpp9.symm.trans (h29.symm.trans hg9))
      obtain ⟨hBN_64, hN_63⟩ := hTN_28 ng (hgM)
      refine lv_aload_n hx hb dJ28_rotateLeft_40 rfl (lv_at hl 2 rfl) ?_
      refine kx_get (v := va_rf (pr2 np)) (C := RJ29) (T := TJ29) (N := 6) hx hb hts in_J29 hown hK hN_30 rfl 4 (by decide) q856 (fun _ h9 => h9) rfl dJ28_rotateLeft_41 ?_
      refine kx_eqq hx hb (b := ng) (hg9) ?_
      refine lv_ifnonnull (tgt := 55) hx hb dJ28_rotateLeft_44 (by decide) ?_
      refine lv_aload_n hx hb dJ28_rotateLeft_55 rfl (lv_at hl 2 rfl) ?_
      refine kx_get (v := va_rf (pr2 np)) (C := RJ29) (T := TJ29) (N := 6) hx hb hts in_J29 hown hK hN_30 rfl 4 (by decide) q856 (fun _ h9 => h9) rfl dJ28_rotateLeft_56 ?_
      refine kx_eqq hx hb (b := ng) (hg9) ?_
      refine kx_get (v := va_rf (lf ng)) (C := RJ29) (T := TJ29) (N := 6) hx hb hts in_J29 hown hK hN_63 rfl 2 (by decide) q853 (fun _ h9 => h9) rfl dJ28_rotateLeft_59 ?_
      refine lv_aload_n hx hb dJ28_rotateLeft_62 rfl (lv_at hl 2 rfl) ?_
      by_cases hlg : lf ng = some np
      · -- hlg t
        refine lv_acmp_ne (rx := lf ng) (ry := some np) (tgt := 77) hx hb dJ28_rotateLeft_63 (by decide) (fun ca_65 => absurd (by exact hlg) ca_65) (fun ca_65 => ?_)
        refine lv_aload_n hx hb dJ28_rotateLeft_66 rfl (lv_at hl 2 rfl) ?_
        refine kx_get (v := va_rf (pr2 np)) (C := RJ29) (T := TJ29) (N := 6) hx hb hts in_J29 hown hK hN_30 rfl 4 (by decide) q856 (fun _ h9 => h9) rfl dJ28_rotateLeft_67 ?_
        refine kx_eqq hx hb (b := ng) (hg9) ?_
        refine lv_aload_n hx hb dJ28_rotateLeft_70 rfl (lv_at hl 0 rfl) ?_
        refine kx_put (v := .ref nr) (C := RJ29) (T := TJ29) (N := 6) hx hb hts in_J29 hown hK hN_63 rfl 2 (by decide) tyJ29 tyJ29_ok nmJ29 hS_26 (Or.inr hgM) q853 (fun _ h9 => h9) rfl rfl rfl rfl (Nat.le_of_ble_eq_true rfl) dJ28_rotateLeft_71 (fun H_68 locs_69 hO_67 hU_66 hS_70 => ?_)
        have hO_67 : kO D H_68 ng 16 [.ref (kf ng), .ref (vf ng), .ref nr, va_rf (rt1 ng), va_rf (pr2 ng), .int (kI (kb (co ng)))] := hO_67
        have hzu_71 := hU_66.1
        refine lv_goto (tgt := 85) hx hb dJ28_rotateLeft_74 (by decide) ?_
        obtain ⟨lf1, hE_73⟩ : ∃ f, f = (kupq lf ng (some nr)) := ⟨_, rfl⟩
        have hTN_72 : kTN D H_68 M kf vf lf1 rt1 pr2 co := by rw [hE_73]; exact hTN_28.lf hU_66 hO_67
        obtain ⟨hBN_75, hN_74⟩ := hTN_72 nr (hrM)
        refine lv_aload_n hx hb dJ28_rotateLeft_85 rfl (lv_at hl 0 rfl) ?_
        refine lv_aload_n hx hb dJ28_rotateLeft_86 rfl (lv_at hl 2 rfl) ?_
        refine kx_put (v := .ref np) (C := RJ29) (T := TJ29) (N := 6) hx hb hts in_J29 hown hK hN_74 rfl 2 (by decide) tyJ29 tyJ29_ok nmJ29 hS_70 (Or.inr hrM) q853 (fun _ h9 => h9) rfl rfl rfl rfl (Nat.le_of_ble_eq_true rfl) dJ28_rotateLeft_87 (fun H_78 locs_79 hO_77 hU_76 hS_80 => ?_)
        have hO_77 : kO D H_78 nr 16 [.ref (kf nr), .ref (vf nr), .ref np, va_rf (rt1 nr), va_rf (pr2 nr), .int (kI (kb (co nr)))] := hO_77
        have hzu_81 := hU_76.1
        obtain ⟨lf9, hE_83⟩ : ∃ f, f = (kupq lf1 nr (some np)) := ⟨_, rfl⟩
        have hTN_82 : kTN D H_78 M kf vf lf9 rt1 pr2 co := by rw [hE_83]; exact hTN_72.lf hU_76 hO_77
        obtain ⟨hBN_85, hN_84⟩ := hTN_82 np (hpM)
        refine lv_aload_n hx hb dJ28_rotateLeft_90 rfl (lv_at hl 2 rfl) ?_
        refine lv_aload_n hx hb dJ28_rotateLeft_91 rfl (lv_at hl 0 rfl) ?_
        refine kx_put (v := .ref nr) (C := RJ29) (T := TJ29) (N := 6) hx hb hts in_J29 hown hK hN_84 rfl 4 (by decide) tyJ29 tyJ29_ok nmJ29 hS_80 (Or.inr hpM) q856 (fun _ h9 => h9) rfl rfl rfl rfl (Nat.le_of_ble_eq_true rfl) dJ28_rotateLeft_92 (fun H_88 locs_89 hO_87 hU_86 hS_90 => ?_)
        have hO_87 : kO D H_88 np 16 [.ref (kf np), .ref (vf np), va_rf (lf9 np), va_rf (rt1 np), .ref nr, .int (kI (kb (co np)))] := hO_87
        have hzu_91 := hU_86.1
        obtain ⟨pr9, hE_93⟩ : ∃ f, f = (kupq pr2 np (some nr)) := ⟨_, rfl⟩
        have hTN_92 : kTN D H_88 M kf vf lf9 rt1 pr9 co := by rw [hE_93]; exact hTN_82.pr hU_86 hO_87
        have h_94 := hO_mp.up hU_7 (by first | assumption | exact Ne.symm (by assumption) | exact fun e9 => hmpM (by rw [e9]; assumption) | omega | (have h9 := hO_mp.lt; omega))
        have h_95 := h_94.up hU_22 (by first | assumption | exact Ne.symm (by assumption) | exact fun e9 => hmpM (by rw [e9]; assumption) | omega | (have h9 := h_94.lt; omega))
        have h_96 := h_95.up hU_66 (by first | assumption | exact Ne.symm (by assumption) | exact fun e9 => hmpM (by rw [e9]; assumption) | omega | (have h9 := h_95.lt; omega))
        have h_97 := h_96.up hU_76 (by first | assumption | exact Ne.symm (by assumption) | exact fun e9 => hmpM (by rw [e9]; assumption) | omega | (have h9 := h_96.lt; omega))
        have h_98 := h_97.up hU_86 (by first | assumption | exact Ne.symm (by assumption) | exact fun e9 => hmpM (by rw [e9]; assumption) | omega | (have h9 := h_97.lt; omega))
        exact kx_vret hx hb hr hlk (⟨lf9, rt1, pr9, ro, h_98, hTN_92, by exact ⟨pr1, by rw [hE1, hm9], by rw [hE_93, hE_29], Or.inr ⟨ng, h29 ▸ hg9, rfl, Or.inl ⟨hlg, by rw [hE_83, hE_73], by rw [hE_14]⟩⟩⟩⟩) hS_90 dJ28_rotateLeft_95
      · -- hlg f
        refine lv_acmp_ne (rx := lf ng) (ry := some np) (tgt := 77) hx hb dJ28_rotateLeft_63 (by decide) (fun ca_99 => ?_) (fun ca_99 => absurd ca_99 (by exact hlg))
        refine lv_aload_n hx hb dJ28_rotateLeft_77 rfl (lv_at hl 2 rfl) ?_
        refine kx_get (v := va_rf (pr2 np)) (C := RJ29) (T := TJ29) (N := 6) hx hb hts in_J29 hown hK hN_30 rfl 4 (by decide) q856 (fun _ h9 => h9) rfl dJ28_rotateLeft_78 ?_
        refine kx_eqq hx hb (b := ng) (hg9) ?_
        refine lv_aload_n hx hb dJ28_rotateLeft_81 rfl (lv_at hl 0 rfl) ?_
        refine kx_put (v := .ref nr) (C := RJ29) (T := TJ29) (N := 6) hx hb hts in_J29 hown hK hN_63 rfl 3 (by decide) tyJ29 tyJ29_ok nmJ29 hS_26 (Or.inr hgM) q854 (fun _ h9 => h9) rfl rfl rfl rfl (Nat.le_of_ble_eq_true rfl) dJ28_rotateLeft_82 (fun H_102 locs_103 hO_101 hU_100 hS_104 => ?_)
        have hO_101 : kO D H_102 ng 16 [.ref (kf ng), .ref (vf ng), va_rf (lf ng), .ref nr, va_rf (pr2 ng), .int (kI (kb (co ng)))] := hO_101
        have hzu_105 := hU_100.1
        obtain ⟨rt3, hE_107⟩ : ∃ f, f = (kupq rt1 ng (some nr)) := ⟨_, rfl⟩
        have hTN_106 : kTN D H_102 M kf vf lf rt3 pr2 co := by rw [hE_107]; exact hTN_28.rt hU_100 hO_101
        obtain ⟨hBN_109, hN_108⟩ := hTN_106 nr (hrM)
        refine lv_aload_n hx hb dJ28_rotateLeft_85 rfl (lv_at hl 0 rfl) ?_
        refine lv_aload_n hx hb dJ28_rotateLeft_86 rfl (lv_at hl 2 rfl) ?_
        refine kx_put (v := .ref np) (C := RJ29) (T := TJ29) (N := 6) hx hb hts in_J29 hown hK hN_108 rfl 2 (by decide) tyJ29 tyJ29_ok nmJ29 hS_104 (Or.inr hrM) q853 (fun _ h9 => h9) rfl rfl rfl rfl (Nat.le_of_ble_eq_true rfl) dJ28_rotateLeft_87 (fun H_112 locs_113 hO_111 hU_110 hS_114 => ?_)
        have hO_111 : kO D H_112 nr 16 [.ref (kf nr), .ref (vf nr), .ref np, va_rf (rt3 nr), va_rf (pr2 nr), .int (kI (kb (co nr)))] := hO_111
        have hzu_115 := hU_110.1
        obtain ⟨lf9, hE_117⟩ : ∃ f, f = (kupq lf nr (some np)) := ⟨_, rfl⟩
        have hTN_116 : kTN D H_112 M kf vf lf9 rt3 pr2 co := by rw [hE_117]; exact hTN_106.lf hU_110 hO_111
        obtain ⟨hBN_119, hN_118⟩ := hTN_116 np (hpM)
        refine lv_aload_n hx hb dJ28_rotateLeft_90 rfl (lv_at hl 2 rfl) ?_
        refine lv_aload_n hx hb dJ28_rotateLeft_91 rfl (lv_at hl 0 rfl) ?_
        refine kx_put (v := .ref nr) (C := RJ29) (T := TJ29) (N := 6) hx hb hts in_J29 hown hK hN_118 rfl 4 (by decide) tyJ29 tyJ29_ok nmJ29 hS_114 (Or.inr hpM) q856 (fun _ h9 => h9) rfl rfl rfl rfl (Nat.le_of_ble_eq_true rfl) dJ28_rotateLeft_92 (fun H_122 locs_123 hO_121 hU_120 hS_124 => ?_)
        have hO_121 : kO D H_122 np 16 [.ref (kf np), .ref (vf np), va_rf (lf9 np), va_rf (rt3 np), .ref nr, .int (kI (kb (co np)))] := hO_121
        have hzu_125 := hU_120.1
        obtain ⟨pr9, hE_127⟩ : ∃ f, f = (kupq pr2 np (some nr)) := ⟨_, rfl⟩
        have hTN_126 : kTN D H_122 M kf vf lf9 rt3 pr9 co := by rw [hE_127]; exact hTN_116.pr hU_120 hO_121
        have h_128 := hO_mp.up hU_7 (by first | assumption | exact Ne.symm (by assumption) | exact fun e9 => hmpM (by rw [e9]; assumption) | omega | (have h9 := hO_mp.lt; omega))
        have h_129 := h_128.up hU_22 (by first | assumption | exact Ne.symm (by assumption) | exact fun e9 => hmpM (by rw [e9]; assumption) | omega | (have h9 := h_128.lt; omega))
        have h_130 := h_129.up hU_100 (by first | assumption | exact Ne.symm (by assumption) | exact fun e9 => hmpM (by rw [e9]; assumption) | omega | (have h9 := h_129.lt; omega))
        have h_131 := h_130.up hU_110 (by first | assumption | exact Ne.symm (by assumption) | exact fun e9 => hmpM (by rw [e9]; assumption) | omega | (have h9 := h_130.lt; omega))
        have h_132 := h_131.up hU_120 (by first | assumption | exact Ne.symm (by assumption) | exact fun e9 => hmpM (by rw [e9]; assumption) | omega | (have h9 := h_131.lt; omega))
        exact kx_vret hx hb hr hlk (⟨lf9, rt3, pr9, ro, h_132, hTN_126, by exact ⟨pr1, by rw [hE1, hm9], by rw [hE_127, hE_29], Or.inr ⟨ng, h29 ▸ hg9, rfl, Or.inr ⟨hlg, by rw [hE_117], by rw [hE_107, hE_14]⟩⟩⟩⟩) hS_124 dJ28_rotateLeft_95
  · -- hm9 s
    have hmM : nm ∈ M := hlm nm hm9
    refine lv_aload_n hx hb dJ28_rotateLeft_17 rfl (lv_at hl 0 rfl) ?_
    refine kx_get (v := va_rf (lf nr)) (C := RJ29) (T := TJ29) (N := 6) hx hb hts in_J29 hown hK hN_15 rfl 2 (by decide) q853 (fun _ h9 => h9) rfl dJ28_rotateLeft_18 ?_
    refine kx_eqq hx hb (b := nm) (hm9) ?_
    refine lv_ifnull hx hb dJ28_rotateLeft_21 ?_
    refine lv_aload_n hx hb dJ28_rotateLeft_24 rfl (lv_at hl 0 rfl) ?_
    refine kx_get (v := va_rf (lf nr)) (C := RJ29) (T := TJ29) (N := 6) hx hb hts in_J29 hown hK hN_15 rfl 2 (by decide) q853 (fun _ h9 => h9) rfl dJ28_rotateLeft_25 ?_
    refine kx_eqq hx hb (b := nm) (hm9) ?_
    obtain ⟨hBN_134, hN_133⟩ := hTN_13 nm (hmM)
    refine lv_aload_n hx hb dJ28_rotateLeft_28 rfl (lv_at hl 2 rfl) ?_
    refine kx_put (v := .ref np) (C := RJ29) (T := TJ29) (N := 6) hx hb hts in_J29 hown hK hN_133 rfl 4 (by decide) tyJ29 tyJ29_ok nmJ29 hS_11 (Or.inr hmM) q856 (fun _ h9 => h9) rfl rfl rfl rfl (Nat.le_of_ble_eq_true rfl) dJ28_rotateLeft_29 (fun H_137 locs_138 hO_136 hU_135 hS_139 => ?_)
    have hO_136 : kO D H_137 nm 16 [.ref (kf nm), .ref (vf nm), va_rf (lf nm), va_rf (rt1 nm), .ref np, .int (kI (kb (co nm)))] := hO_136
    have hzu_140 := hU_135.1
    obtain ⟨pr1, hE_142⟩ : ∃ f, f = (kupq pr nm (some np)) := ⟨_, rfl⟩
    have hTN_141 : kTN D H_137 M kf vf lf rt1 pr1 co := by rw [hE_142]; exact hTN_13.pr hU_135 hO_136
    have hpp9 : pr1 np = pr np := by rw [hE_142]; exact kupq_ne (fun e9 => hmp nm hm9 e9.symm)
    obtain ⟨hBN_144, hN_143⟩ := hTN_141 nr (hrM)
    obtain ⟨hBN_146, hN_145⟩ := hTN_141 np (hpM)
    refine lv_aload_n hx hb dJ28_rotateLeft_32 rfl (lv_at hl 0 rfl) ?_
    refine lv_aload_n hx hb dJ28_rotateLeft_33 rfl (lv_at hl 2 rfl) ?_
    refine kx_get (v := va_rf (pr1 np)) (C := RJ29) (T := TJ29) (N := 6) hx hb hts in_J29 hown hK hN_145 rfl 4 (by decide) q856 (fun _ h9 => h9) rfl dJ28_rotateLeft_34 ?_
    refine kx_put (v := va_rf (pr1 np)) (C := RJ29) (T := TJ29) (N := 6) hx hb hts in_J29 hown hK hN_143 rfl 4 (by decide) tyJ29 tyJ29_ok nmJ29 hS_139 (Or.inr hrM) q856 (fun _ h9 => h9) rfl rfl rfl (op_fit _) (Nat.le_of_ble_eq_true rfl) dJ28_rotateLeft_37 (fun H_149 locs_150 hO_148 hU_147 hS_151 => ?_)
    have hO_148 : kO D H_149 nr 16 [.ref (kf nr), .ref (vf nr), va_rf (lf nr), va_rf (rt1 nr), va_rf (pr1 np), .int (kI (kb (co nr)))] := hO_148
    have hzu_152 := hU_147.1
    obtain ⟨pr2, hE_154⟩ : ∃ f, f = (kupq pr1 nr (pr1 np)) := ⟨_, rfl⟩
    have hTN_153 : kTN D H_149 M kf vf lf rt1 pr2 co := by rw [hE_154]; exact hTN_141.pr hU_147 hO_148
    have h29 : pr2 np = pr1 np := by rw [hE_154]; exact kupq_ne hpr
    obtain ⟨hBN_156, hN_155⟩ := hTN_153 np (hpM)
    rcases op_cases (pr2 np) with hg9 | ⟨ng, hg9⟩
    · -- hg9 n
      refine lv_aload_n hx hb dJ28_rotateLeft_40 rfl (lv_at hl 2 rfl) ?_
      refine kx_get (v := va_rf (pr2 np)) (C := RJ29) (T := TJ29) (N := 6) hx hb hts in_J29 hown hK hN_155 rfl 4 (by decide) q856 (fun _ h9 => h9) rfl dJ28_rotateLeft_41 ?_
      refine kx_eqqN hx hb (hg9) ?_
      refine lv_ifnonnullN hx hb dJ28_rotateLeft_44 ?_
      refine lv_aload_n hx hb dJ28_rotateLeft_47 rfl (lv_at hl 1 rfl) ?_
      refine lv_aload_n hx hb dJ28_rotateLeft_48 rfl (lv_at hl 0 rfl) ?_
      have h_157 := hO_mp.up hU_7 (by first | assumption | exact Ne.symm (by assumption) | exact fun e9 => hmpM (by rw [e9]; assumption) | omega | (have h9 := hO_mp.lt; omega))
      have h_158 := h_157.up hU_135 (by first | assumption | exact Ne.symm (by assumption) | exact fun e9 => hmpM (by rw [e9]; assumption) | omega | (have h9 := h_157.lt; omega))
      have h_159 := h_158.up hU_147 (by first | assumption | exact Ne.symm (by assumption) | exact fun e9 => hmpM (by rw [e9]; assumption) | omega | (have h9 := h_158.lt; omega))
      refine kx_put (v := .ref nr) (C := RJ28) (T := TJ28) (N := 9) hx hb hts in_J28 hown hK h_159 rfl 3 (by decide) tyJ28 tyJ28_ok nmJ28 hS_151 (Or.inl rfl) q543 (fun _ h9 => h9) rfl rfl rfl rfl (Nat.le_of_ble_eq_true rfl) dJ28_rotateLeft_49 (fun H_162 locs_163 hO_161 hU_160 hS_164 => ?_)
      have hO_161 : kO D H_162 mp 15 [.null, .null, .null, .ref nr, .int (kI ((sz : Nat) : Int)), .int (kI (mc)), .null, va_rf (ks), .null] := hO_161
      have hzu_165 := hU_160.1
      refine lv_goto (tgt := 85) hx hb dJ28_rotateLeft_52 (by decide) ?_
      have h_166 := hTN_153.up hU_160 (by first | assumption | exact Ne.symm (by assumption) | exact fun e9 => hmpM (by rw [e9]; assumption) | omega | (have h9 := hTN_153.lt; omega))
      obtain ⟨hBN_168, hN_167⟩ := h_166 nr (hrM)
      refine lv_aload_n hx hb dJ28_rotateLeft_85 rfl (lv_at hl 0 rfl) ?_
      refine lv_aload_n hx hb dJ28_rotateLeft_86 rfl (lv_at hl 2 rfl) ?_
      refine kx_put (v := .ref np) (C := RJ29) (T := TJ29) (N := 6) hx hb hts in_J29 hown hK hN_167 rfl 2 (by decide) tyJ29 tyJ29_ok nmJ29 hS_164 (Or.inr hrM) q853 (fun _ h9 => h9) rfl rfl rfl rfl (Nat.le_of_ble_eq_true rfl) dJ28_rotateLeft_87 (fun H_171 locs_172 hO_170 hU_169 hS_173 => ?_)
      have hO_170 : kO D H_171 nr 16 [.ref (kf nr), .ref (vf nr), .ref np, va_rf (rt1 nr), va_rf (pr2 nr), .int (kI (kb (co nr)))] := hO_170
      have hzu_174 := hU_169.1
      obtain ⟨lf9, hE_176⟩ : ∃ f, f = (kupq lf nr (some np)) := ⟨_, rfl⟩
      have hTN_175 : kTN D H_171 M kf vf lf9 rt1 pr2 co := by rw [hE_176]; exact h_166.lf hU_169 hO_170
      obtain ⟨hBN_178, hN_177⟩ := hTN_175 np (hpM)
      refine lv_aload_n hx hb dJ28_rotateLeft_90 rfl (lv_at hl 2 rfl) ?_
      refine lv_aload_n hx hb dJ28_rotateLeft_91 rfl (lv_at hl 0 rfl) ?_
      refine kx_put (v := .ref nr) (C := RJ29) (T := TJ29) (N := 6) hx hb hts in_J29 hown hK hN_177 rfl 4 (by decide) tyJ29 tyJ29_ok nmJ29 hS_173 (Or.inr hpM) q856 (fun _ h9 => h9) rfl rfl rfl rfl (Nat.le_of_ble_eq_true rfl) dJ28_rotateLeft_92 (fun H_181 locs_182 hO_180 hU_179 hS_183 => ?_)
      have hO_180 : kO D H_181 np 16 [.ref (kf np), .ref (vf np), va_rf (lf9 np), va_rf (rt1 np), .ref nr, .int (kI (kb (co np)))] := hO_180
      have hzu_184 := hU_179.1
      obtain ⟨pr9, hE_186⟩ : ∃ f, f = (kupq pr2 np (some nr)) := ⟨_, rfl⟩
      have hTN_185 : kTN D H_181 M kf vf lf9 rt1 pr9 co := by rw [hE_186]; exact hTN_175.pr hU_179 hO_180
      have h_187 := hO_161.up hU_169 (by first | assumption | exact Ne.symm (by assumption) | exact fun e9 => hmpM (by rw [e9]; assumption) | omega | (have h9 := hO_161.lt; omega))
      have h_188 := h_187.up hU_179 (by first | assumption | exact Ne.symm (by assumption) | exact fun e9 => hmpM (by rw [e9]; assumption) | omega | (have h9 := h_187.lt; omega))
      exact kx_vret hx hb hr hlk (⟨lf9, rt1, pr9, (some nr), h_188, hTN_185, by exact ⟨pr1, by rw [hE_142, hm9], by rw [hE_186, hE_154], Or.inl ⟨h29 ▸ hg9, rfl, by rw [hE_176], by rw [hE_14]⟩⟩⟩) hS_183 dJ28_rotateLeft_95
    · -- hg9 s
      have hgM : ng ∈ M := hpg ng (hpp9.symm.trans (h29.symm.trans hg9))
      obtain ⟨hBN_190, hN_189⟩ := hTN_153 ng (hgM)
      refine lv_aload_n hx hb dJ28_rotateLeft_40 rfl (lv_at hl 2 rfl) ?_
      refine kx_get (v := va_rf (pr2 np)) (C := RJ29) (T := TJ29) (N := 6) hx hb hts in_J29 hown hK hN_155 rfl 4 (by decide) q856 (fun _ h9 => h9) rfl dJ28_rotateLeft_41 ?_
      refine kx_eqq hx hb (b := ng) (hg9) ?_
      refine lv_ifnonnull (tgt := 55) hx hb dJ28_rotateLeft_44 (by decide) ?_
      refine lv_aload_n hx hb dJ28_rotateLeft_55 rfl (lv_at hl 2 rfl) ?_
      refine kx_get (v := va_rf (pr2 np)) (C := RJ29) (T := TJ29) (N := 6) hx hb hts in_J29 hown hK hN_155 rfl 4 (by decide) q856 (fun _ h9 => h9) rfl dJ28_rotateLeft_56 ?_
      refine kx_eqq hx hb (b := ng) (hg9) ?_
      refine kx_get (v := va_rf (lf ng)) (C := RJ29) (T := TJ29) (N := 6) hx hb hts in_J29 hown hK hN_189 rfl 2 (by decide) q853 (fun _ h9 => h9) rfl dJ28_rotateLeft_59 ?_
      refine lv_aload_n hx hb dJ28_rotateLeft_62 rfl (lv_at hl 2 rfl) ?_
      by_cases hlg : lf ng = some np
      · -- hlg t
        refine lv_acmp_ne (rx := lf ng) (ry := some np) (tgt := 77) hx hb dJ28_rotateLeft_63 (by decide) (fun ca_191 => absurd (by exact hlg) ca_191) (fun ca_191 => ?_)
        refine lv_aload_n hx hb dJ28_rotateLeft_66 rfl (lv_at hl 2 rfl) ?_
        refine kx_get (v := va_rf (pr2 np)) (C := RJ29) (T := TJ29) (N := 6) hx hb hts in_J29 hown hK hN_155 rfl 4 (by decide) q856 (fun _ h9 => h9) rfl dJ28_rotateLeft_67 ?_
        refine kx_eqq hx hb (b := ng) (hg9) ?_
        refine lv_aload_n hx hb dJ28_rotateLeft_70 rfl (lv_at hl 0 rfl) ?_
        refine kx_put (v := .ref nr) (C := RJ29) (T := TJ29) (N := 6) hx hb hts in_J29 hown hK hN_189 rfl 2 (by decide) tyJ29 tyJ29_ok nmJ29 hS_151 (Or.inr hgM) q853 (fun _ h9 => h9) rfl rfl rfl rfl (Nat.le_of_ble_eq_true rfl) dJ28_rotateLeft_71 (fun H_194 locs_195 hO_193 hU_192 hS_196 => ?_)
        have hO_193 : kO D H_194 ng 16 [.ref (kf ng), .ref (vf ng), .ref nr, va_rf (rt1 ng), va_rf (pr2 ng), .int (kI (kb (co ng)))] := hO_193
        have hzu_197 := hU_192.1
        refine lv_goto (tgt := 85) hx hb dJ28_rotateLeft_74 (by decide) ?_
        obtain ⟨lf1, hE_199⟩ : ∃ f, f = (kupq lf ng (some nr)) := ⟨_, rfl⟩
        have hTN_198 : kTN D H_194 M kf vf lf1 rt1 pr2 co := by rw [hE_199]; exact hTN_153.lf hU_192 hO_193
        obtain ⟨hBN_201, hN_200⟩ := hTN_198 nr (hrM)
        refine lv_aload_n hx hb dJ28_rotateLeft_85 rfl (lv_at hl 0 rfl) ?_
        refine lv_aload_n hx hb dJ28_rotateLeft_86 rfl (lv_at hl 2 rfl) ?_
        refine kx_put (v := .ref np) (C := RJ29) (T := TJ29) (N := 6) hx hb hts in_J29 hown hK hN_200 rfl 2 (by decide) tyJ29 tyJ29_ok nmJ29 hS_196 (Or.inr hrM) q853 (fun _ h9 => h9) rfl rfl rfl rfl (Nat.le_of_ble_eq_true rfl) dJ28_rotateLeft_87 (fun H_204 locs_205 hO_203 hU_202 hS_206 => ?_)
        have hO_203 : kO D H_204 nr 16 [.ref (kf nr), .ref (vf nr), .ref np, va_rf (rt1 nr), va_rf (pr2 nr), .int (kI (kb (co nr)))] := hO_203
        have hzu_207 := hU_202.1
        obtain ⟨lf9, hE_209⟩ : ∃ f, f = (kupq lf1 nr (some np)) := ⟨_, rfl⟩
        have hTN_208 : kTN D H_204 M kf vf lf9 rt1 pr2 co := by rw [hE_209]; exact hTN_198.lf hU_202 hO_203
        obtain ⟨hBN_211, hN_210⟩ := hTN_208 np (hpM)
        refine lv_aload_n hx hb dJ28_rotateLeft_90 rfl (lv_at hl 2 rfl) ?_
        refine lv_aload_n hx hb dJ28_rotateLeft_91 rfl (lv_at hl 0 rfl) ?_
        refine kx_put (v := .ref nr) (C := RJ29) (T := TJ29) (N := 6) hx hb hts in_J29 hown hK hN_210 rfl 4 (by decide) tyJ29 tyJ29_ok nmJ29 hS_206 (Or.inr hpM) q856 (fun _ h9 => h9) rfl rfl rfl rfl (Nat.le_of_ble_eq_true rfl) dJ28_rotateLeft_92 (fun H_214 locs_215 hO_213 hU_212 hS_216 => ?_)
        have hO_213 : kO D H_214 np 16 [.ref (kf np), .ref (vf np), va_rf (lf9 np), va_rf (rt1 np), .ref nr, .int (kI (kb (co np)))] := hO_213
        have hzu_217 := hU_212.1
        obtain ⟨pr9, hE_219⟩ : ∃ f, f = (kupq pr2 np (some nr)) := ⟨_, rfl⟩
        have hTN_218 : kTN D H_214 M kf vf lf9 rt1 pr9 co := by rw [hE_219]; exact hTN_208.pr hU_212 hO_213
        have h_220 := hO_mp.up hU_7 (by first | assumption | exact Ne.symm (by assumption) | exact fun e9 => hmpM (by rw [e9]; assumption) | omega | (have h9 := hO_mp.lt; omega))
        have h_221 := h_220.up hU_135 (by first | assumption | exact Ne.symm (by assumption) | exact fun e9 => hmpM (by rw [e9]; assumption) | omega | (have h9 := h_220.lt; omega))
        have h_222 := h_221.up hU_147 (by first | assumption | exact Ne.symm (by assumption) | exact fun e9 => hmpM (by rw [e9]; assumption) | omega | (have h9 := h_221.lt; omega))
        have h_223 := h_222.up hU_192 (by first | assumption | exact Ne.symm (by assumption) | exact fun e9 => hmpM (by rw [e9]; assumption) | omega | (have h9 := h_222.lt; omega))
        have h_224 := h_223.up hU_202 (by first | assumption | exact Ne.symm (by assumption) | exact fun e9 => hmpM (by rw [e9]; assumption) | omega | (have h9 := h_223.lt; omega))
        have h_225 := h_224.up hU_212 (by first | assumption | exact Ne.symm (by assumption) | exact fun e9 => hmpM (by rw [e9]; assumption) | omega | (have h9 := h_224.lt; omega))
        exact kx_vret hx hb hr hlk (⟨lf9, rt1, pr9, ro, h_225, hTN_218, by exact ⟨pr1, by rw [hE_142, hm9], by rw [hE_219, hE_154], Or.inr ⟨ng, h29 ▸ hg9, rfl, Or.inl ⟨hlg, by rw [hE_209, hE_199], by rw [hE_14]⟩⟩⟩⟩) hS_216 dJ28_rotateLeft_95
      · -- hlg f
        refine lv_acmp_ne (rx := lf ng) (ry := some np) (tgt := 77) hx hb dJ28_rotateLeft_63 (by decide) (fun ca_226 => ?_) (fun ca_226 => absurd ca_226 (by exact hlg))
        refine lv_aload_n hx hb dJ28_rotateLeft_77 rfl (lv_at hl 2 rfl) ?_
        refine kx_get (v := va_rf (pr2 np)) (C := RJ29) (T := TJ29) (N := 6) hx hb hts in_J29 hown hK hN_155 rfl 4 (by decide) q856 (fun _ h9 => h9) rfl dJ28_rotateLeft_78 ?_
        refine kx_eqq hx hb (b := ng) (hg9) ?_
        refine lv_aload_n hx hb dJ28_rotateLeft_81 rfl (lv_at hl 0 rfl) ?_
        refine kx_put (v := .ref nr) (C := RJ29) (T := TJ29) (N := 6) hx hb hts in_J29 hown hK hN_189 rfl 3 (by decide) tyJ29 tyJ29_ok nmJ29 hS_151 (Or.inr hgM) q854 (fun _ h9 => h9) rfl rfl rfl rfl (Nat.le_of_ble_eq_true rfl) dJ28_rotateLeft_82 (fun H_229 locs_230 hO_228 hU_227 hS_231 => ?_)
        have hO_228 : kO D H_229 ng 16 [.ref (kf ng), .ref (vf ng), va_rf (lf ng), .ref nr, va_rf (pr2 ng), .int (kI (kb (co ng)))] := hO_228
        have hzu_232 := hU_227.1
        obtain ⟨rt3, hE_234⟩ : ∃ f, f = (kupq rt1 ng (some nr)) := ⟨_, rfl⟩
        have hTN_233 : kTN D H_229 M kf vf lf rt3 pr2 co := by rw [hE_234]; exact hTN_153.rt hU_227 hO_228
        obtain ⟨hBN_236, hN_235⟩ := hTN_233 nr (hrM)
        refine lv_aload_n hx hb dJ28_rotateLeft_85 rfl (lv_at hl 0 rfl) ?_
        refine lv_aload_n hx hb dJ28_rotateLeft_86 rfl (lv_at hl 2 rfl) ?_
        refine kx_put (v := .ref np) (C := RJ29) (T := TJ29) (N := 6) hx hb hts in_J29 hown hK hN_235 rfl 2 (by decide) tyJ29 tyJ29_ok nmJ29 hS_231 (Or.inr hrM) q853 (fun _ h9 => h9) rfl rfl rfl rfl (Nat.le_of_ble_eq_true rfl) dJ28_rotateLeft_87 (fun H_239 locs_240 hO_238 hU_237 hS_241 => ?_)
        have hO_238 : kO D H_239 nr 16 [.ref (kf nr), .ref (vf nr), .ref np, va_rf (rt3 nr), va_rf (pr2 nr), .int (kI (kb (co nr)))] := hO_238
        have hzu_242 := hU_237.1
        obtain ⟨lf9, hE_244⟩ : ∃ f, f = (kupq lf nr (some np)) := ⟨_, rfl⟩
        have hTN_243 : kTN D H_239 M kf vf lf9 rt3 pr2 co := by rw [hE_244]; exact hTN_233.lf hU_237 hO_238
        obtain ⟨hBN_246, hN_245⟩ := hTN_243 np (hpM)
        refine lv_aload_n hx hb dJ28_rotateLeft_90 rfl (lv_at hl 2 rfl) ?_
        refine lv_aload_n hx hb dJ28_rotateLeft_91 rfl (lv_at hl 0 rfl) ?_
        refine kx_put (v := .ref nr) (C := RJ29) (T := TJ29) (N := 6) hx hb hts in_J29 hown hK hN_245 rfl 4 (by decide) tyJ29 tyJ29_ok nmJ29 hS_241 (Or.inr hpM) q856 (fun _ h9 => h9) rfl rfl rfl rfl (Nat.le_of_ble_eq_true rfl) dJ28_rotateLeft_92 (fun H_249 locs_250 hO_248 hU_247 hS_251 => ?_)
        have hO_248 : kO D H_249 np 16 [.ref (kf np), .ref (vf np), va_rf (lf9 np), va_rf (rt3 np), .ref nr, .int (kI (kb (co np)))] := hO_248
        have hzu_252 := hU_247.1
        obtain ⟨pr9, hE_254⟩ : ∃ f, f = (kupq pr2 np (some nr)) := ⟨_, rfl⟩
        have hTN_253 : kTN D H_249 M kf vf lf9 rt3 pr9 co := by rw [hE_254]; exact hTN_243.pr hU_247 hO_248
        have h_255 := hO_mp.up hU_7 (by first | assumption | exact Ne.symm (by assumption) | exact fun e9 => hmpM (by rw [e9]; assumption) | omega | (have h9 := hO_mp.lt; omega))
        have h_256 := h_255.up hU_135 (by first | assumption | exact Ne.symm (by assumption) | exact fun e9 => hmpM (by rw [e9]; assumption) | omega | (have h9 := h_255.lt; omega))
        have h_257 := h_256.up hU_147 (by first | assumption | exact Ne.symm (by assumption) | exact fun e9 => hmpM (by rw [e9]; assumption) | omega | (have h9 := h_256.lt; omega))
        have h_258 := h_257.up hU_227 (by first | assumption | exact Ne.symm (by assumption) | exact fun e9 => hmpM (by rw [e9]; assumption) | omega | (have h9 := h_257.lt; omega))
        have h_259 := h_258.up hU_237 (by first | assumption | exact Ne.symm (by assumption) | exact fun e9 => hmpM (by rw [e9]; assumption) | omega | (have h9 := h_258.lt; omega))
        have h_260 := h_259.up hU_247 (by first | assumption | exact Ne.symm (by assumption) | exact fun e9 => hmpM (by rw [e9]; assumption) | omega | (have h9 := h_259.lt; omega))
        exact kx_vret hx hb hr hlk (⟨lf9, rt3, pr9, ro, h_260, hTN_253, by exact ⟨pr1, by rw [hE_142, hm9], by rw [hE_254, hE_154], Or.inr ⟨ng, h29 ▸ hg9, rfl, Or.inr ⟨hlg, by rw [hE_244], by rw [hE_234, hE_14]⟩⟩⟩⟩) hS_251 dJ28_rotateLeft_95

set_option maxHeartbeats 4000000 in
set_option maxRecDepth 100000 in
theorem m_J28_rotateRight (l : Launch) (D : kG) (H : Heap) (mp : Nat) (ro : Option Nat) (sz : Nat) (mc : Int) (ks : Option Nat) (M : List Nat) (kf : Nat → Nat) (vf : Nat → Nat) (lf : Nat → Option Nat) (rt : Nat → Option Nat) (pr : Nat → Option Nat) (co : Nat → Bool) (np : Nat) (nr : Nat) (hO_mp : kO D H mp 15 [.null, .null, .null, va_rf (ro), .int (kI ((sz : Nat) : Int)), .int (kI (mc)), .null, va_rf (ks), .null]) (hP_kTN_M : kTN D H M kf vf lf rt pr co) (hpM : np ∈ M) (hrM : nr ∈ M) (hpr : np ≠ nr) (hrt : lf np = some nr) (hlm : ∀ m, rt nr = some m → m ∈ M) (hpg : ∀ g, pr np = some g → g ∈ M) (hmp : ∀ m, rt nr = some m → m ≠ np) (bs_mp : kBase D ≤ mp) (hmpM : mp ∉ M) : Met l yJ28_rotateRight (ws_ yJ28_rotateRight cJ28_rotateRight 3 none) ({ frames := 0, cells := 0, slots := 0, locals := 0 } : Room) (kPre D H [.ref mp, .ref np]) (kQv (fun H' => ∃ (lf2 : Nat → Option Nat) (rt2 : Nat → Option Nat) (pr2 : Nat → Option Nat) (ro2 : Option Nat), (kO D H' mp 15 [.null, .null, .null, va_rf (ro2), .int (kI ((sz : Nat) : Int)), .int (kI (mc)), .null, va_rf (ks), .null]) ∧ (kTN D H' M kf vf lf2 rt2 pr2 co) ∧ (RotR lf rt pr ro np nr lf2 rt2 pr2 ro2)) (fun q : Nat => q = mp ∨ q ∈ M)) (0) (0) ((fun q : Nat => q = mp ∨ q ∈ M)) := by
  refine Met.ofW (cc := cJ28_rotateRight) (maxL := 3) (ret := none) (by decide) rfl ?_
  intro p e s m args below meth c s₁ B hml hv
  obtain ⟨rfl, hH, hK⟩ := hv
  subst hH
  have hx := B.exec
  have hb := B.bytes
  have hr := B.returns
  have hts := atoms_spec (ws := ws_ yJ28_rotateRight cJ28_rotateRight 3 none) B.pre
  have hts : ∀ w ∈ lw_all, w.before _ s = true := fun w h => hts w (List.mem_cons_of_mem _ h)
  have hown : s.vm.findClass RJ28 = some m.cls := findClass_of_methodNamed B.named
  have hlk := B.notSynchronized
  have hS : va_S (fun q : Nat => q = mp ∨ q ∈ M) s.heap s.heap [] := va_S.rf
  have hB : ∀ q, (fun q : Nat => q = mp ∨ q ∈ M) q → kBase D ≤ q := fun q h => by (rcases h with h | h; (rw [h]; exact bs_mp); exact (hP_kTN_M q h).1)
  have hl := lv_entry ([.ref mp, .ref np]) (n := 3) (Nat.le_of_ble_eq_true rfl)
  rw [lg_entry_eq]
  generalize (lg_sl ([.ref mp, .ref np]) ++ List.replicate (3 - (lg_sl ([.ref mp, .ref np])).length) Slot.unset).toArray = ls at hl ⊢
  have hl : lv_has ls 3 [(0, .ref mp), (1, .ref np)] := hl
  obtain ⟨hBN_2, hN_1⟩ := hP_kTN_M np (hpM)
  refine lv_aload_n hx hb dJ28_rotateRight_0 rfl (lv_at hl 1 rfl) ?_
  refine lv_ifnull hx hb dJ28_rotateRight_1 ?_
  refine lv_aload_n hx hb dJ28_rotateRight_4 rfl (lv_at hl 1 rfl) ?_
  refine kx_get (v := va_rf (lf np)) (C := RJ29) (T := TJ29) (N := 6) hx hb hts in_J29 hown hK hN_1 rfl 2 (by decide) q853 (fun _ h9 => h9) rfl dJ28_rotateRight_5 ?_
  refine kx_eqq hx hb (b := nr) (hrt) ?_
  refine lv_astore_n (lv' := [(2, .ref nr), (0, .ref mp), (1, .ref np)]) hx hb dJ28_rotateRight_8 rfl hl (by decide) rfl (fun ls hl => ?_)
  obtain ⟨hBN_4, hN_3⟩ := hP_kTN_M np (hpM)
  obtain ⟨hBN_6, hN_5⟩ := hP_kTN_M nr (hrM)
  refine lv_aload_n hx hb dJ28_rotateRight_9 rfl (lv_at hl 2 rfl) ?_
  refine lv_aload_n hx hb dJ28_rotateRight_10 rfl (lv_at hl 0 rfl) ?_
  refine kx_get (v := va_rf (rt nr)) (C := RJ29) (T := TJ29) (N := 6) hx hb hts in_J29 hown hK hN_5 rfl 3 (by decide) q854 (fun _ h9 => h9) rfl dJ28_rotateRight_11 ?_
  refine kx_put (v := va_rf (rt nr)) (C := RJ29) (T := TJ29) (N := 6) hx hb hts in_J29 hown hK hN_3 rfl 2 (by decide) tyJ29 tyJ29_ok nmJ29 hS (Or.inr hpM) q853 (fun _ h9 => h9) rfl rfl rfl (op_fit _) (Nat.le_of_ble_eq_true rfl) dJ28_rotateRight_14 (fun H_9 locs_10 hO_8 hU_7 hS_11 => ?_)
  have hO_8 : kO D H_9 np 16 [.ref (kf np), .ref (vf np), va_rf (rt nr), va_rf (rt np), va_rf (pr np), .int (kI (kb (co np)))] := hO_8
  have hzu_12 := hU_7.1
  obtain ⟨lf1, hE_14⟩ : ∃ f, f = (kupq lf np (rt nr)) := ⟨_, rfl⟩
  have hTN_13 : kTN D H_9 M kf vf lf1 rt pr co := by rw [hE_14]; exact hP_kTN_M.lf hU_7 hO_8
  obtain ⟨hBN_16, hN_15⟩ := hTN_13 nr (hrM)
  rcases op_cases (rt nr) with hm9 | ⟨nm, hm9⟩
  · -- hm9 n
    obtain ⟨pr1, hE1⟩ : ∃ f, f = pr := ⟨_, rfl⟩
    have hpp9 : pr1 np = pr np := by rw [hE1]
    have hTN_17 : kTN D H_9 M kf vf lf1 rt pr1 co := by rw [hE1]; exact hTN_13
    refine lv_aload_n hx hb dJ28_rotateRight_17 rfl (lv_at hl 0 rfl) ?_
    refine kx_get (v := va_rf (rt nr)) (C := RJ29) (T := TJ29) (N := 6) hx hb hts in_J29 hown hK hN_15 rfl 3 (by decide) q854 (fun _ h9 => h9) rfl dJ28_rotateRight_18 ?_
    refine kx_eqqN hx hb (hm9) ?_
    refine lv_ifnullN (tgt := 32) hx hb dJ28_rotateRight_21 (by decide) ?_
    obtain ⟨hBN_19, hN_18⟩ := hTN_17 nr (hrM)
    obtain ⟨hBN_21, hN_20⟩ := hTN_17 np (hpM)
    refine lv_aload_n hx hb dJ28_rotateRight_32 rfl (lv_at hl 0 rfl) ?_
    refine lv_aload_n hx hb dJ28_rotateRight_33 rfl (lv_at hl 2 rfl) ?_
    refine kx_get (v := va_rf (pr1 np)) (C := RJ29) (T := TJ29) (N := 6) hx hb hts in_J29 hown hK hN_20 rfl 4 (by decide) q856 (fun _ h9 => h9) rfl dJ28_rotateRight_34 ?_
    refine kx_put (v := va_rf (pr1 np)) (C := RJ29) (T := TJ29) (N := 6) hx hb hts in_J29 hown hK hN_18 rfl 4 (by decide) tyJ29 tyJ29_ok nmJ29 hS_11 (Or.inr hrM) q856 (fun _ h9 => h9) rfl rfl rfl (op_fit _) (Nat.le_of_ble_eq_true rfl) dJ28_rotateRight_37 (fun H_24 locs_25 hO_23 hU_22 hS_26 => ?_)
    have hO_23 : kO D H_24 nr 16 [.ref (kf nr), .ref (vf nr), va_rf (lf1 nr), va_rf (rt nr), va_rf (pr1 np), .int (kI (kb (co nr)))] := hO_23
    have hzu_27 := hU_22.1
    obtain ⟨pr2, hE_29⟩ : ∃ f, f = (kupq pr1 nr (pr1 np)) := ⟨_, rfl⟩
    have hTN_28 : kTN D H_24 M kf vf lf1 rt pr2 co := by rw [hE_29]; exact hTN_17.pr hU_22 hO_23
    have h29 : pr2 np = pr1 np := by rw [hE_29]; exact kupq_ne hpr
    obtain ⟨hBN_31, hN_30⟩ := hTN_28 np (hpM)
    rcases op_cases (pr2 np) with hg9 | ⟨ng, hg9⟩
    · -- hg9 n
      refine lv_aload_n hx hb dJ28_rotateRight_40 rfl (lv_at hl 2 rfl) ?_
      refine kx_get (v := va_rf (pr2 np)) (C := RJ29) (T := TJ29) (N := 6) hx hb hts in_J29 hown hK hN_30 rfl 4 (by decide) q856 (fun _ h9 => h9) rfl dJ28_rotateRight_41 ?_
      refine kx_eqqN hx hb (hg9) ?_
      refine lv_ifnonnullN hx hb dJ28_rotateRight_44 ?_
      refine lv_aload_n hx hb dJ28_rotateRight_47 rfl (lv_at hl 1 rfl) ?_
      refine lv_aload_n hx hb dJ28_rotateRight_48 rfl (lv_at hl 0 rfl) ?_
      have h_32 := hO_mp.up hU_7 (by first | assumption | exact Ne.symm (by assumption) | exact fun e9 => hmpM (by rw [e9]; assumption) | omega | (have h9 := hO_mp.lt; omega))
      have h_33 := h_32.up hU_22 (by first | assumption | exact Ne.symm (by assumption) | exact fun e9 => hmpM (by rw [e9]; assumption) | omega | (have h9 := h_32.lt; omega))
      refine kx_put (v := .ref nr) (C := RJ28) (T := TJ28) (N := 9) hx hb hts in_J28 hown hK h_33 rfl 3 (by decide) tyJ28 tyJ28_ok nmJ28 hS_26 (Or.inl rfl) q543 (fun _ h9 => h9) rfl rfl rfl rfl (Nat.le_of_ble_eq_true rfl) dJ28_rotateRight_49 (fun H_36 locs_37 hO_35 hU_34 hS_38 => ?_)
      have hO_35 : kO D H_36 mp 15 [.null, .null, .null, .ref nr, .int (kI ((sz : Nat) : Int)), .int (kI (mc)), .null, va_rf (ks), .null] := hO_35
      have hzu_39 := hU_34.1
      refine lv_goto (tgt := 85) hx hb dJ28_rotateRight_52 (by decide) ?_
      have h_40 := hTN_28.up hU_34 (by first | assumption | exact Ne.symm (by assumption) | exact fun e9 => hmpM (by rw [e9]; assumption) | omega | (have h9 := hTN_28.lt; omega))
      obtain ⟨hBN_42, hN_41⟩ := h_40 nr (hrM)
      refine lv_aload_n hx hb dJ28_rotateRight_85 rfl (lv_at hl 0 rfl) ?_
      refine lv_aload_n hx hb dJ28_rotateRight_86 rfl (lv_at hl 2 rfl) ?_
      refine kx_put (v := .ref np) (C := RJ29) (T := TJ29) (N := 6) hx hb hts in_J29 hown hK hN_41 rfl 3 (by decide) tyJ29 tyJ29_ok nmJ29 hS_38 (Or.inr hrM) q854 (fun _ h9 => h9) rfl rfl rfl rfl (Nat.le_of_ble_eq_true rfl) dJ28_rotateRight_87 (fun H_45 locs_46 hO_44 hU_43 hS_47 => ?_)
      have hO_44 : kO D H_45 nr 16 [.ref (kf nr), .ref (vf nr), va_rf (lf1 nr), .ref np, va_rf (pr2 nr), .int (kI (kb (co nr)))] := hO_44
      have hzu_48 := hU_43.1
      obtain ⟨rt9, hE_50⟩ : ∃ f, f = (kupq rt nr (some np)) := ⟨_, rfl⟩
      have hTN_49 : kTN D H_45 M kf vf lf1 rt9 pr2 co := by rw [hE_50]; exact h_40.rt hU_43 hO_44
      obtain ⟨hBN_52, hN_51⟩ := hTN_49 np (hpM)
      refine lv_aload_n hx hb dJ28_rotateRight_90 rfl (lv_at hl 2 rfl) ?_
      refine lv_aload_n hx hb dJ28_rotateRight_91 rfl (lv_at hl 0 rfl) ?_
      refine kx_put (v := .ref nr) (C := RJ29) (T := TJ29) (N := 6) hx hb hts in_J29 hown hK hN_51 rfl 4 (by decide) tyJ29 tyJ29_ok nmJ29 hS_47 (Or.inr hpM) q856 (fun _ h9 => h9) rfl rfl rfl rfl (Nat.le_of_ble_eq_true rfl) dJ28_rotateRight_92 (fun H_55 locs_56 hO_54 hU_53 hS_57 => ?_)
      have hO_54 : kO D H_55 np 16 [.ref (kf np), .ref (vf np), va_rf (lf1 np), va_rf (rt9 np), .ref nr, .int (kI (kb (co np)))] := hO_54
      have hzu_58 := hU_53.1
      obtain ⟨pr9, hE_60⟩ : ∃ f, f = (kupq pr2 np (some nr)) := ⟨_, rfl⟩
      have hTN_59 : kTN D H_55 M kf vf lf1 rt9 pr9 co := by rw [hE_60]; exact hTN_49.pr hU_53 hO_54
      have h_61 := hO_35.up hU_43 (by first | assumption | exact Ne.symm (by assumption) | exact fun e9 => hmpM (by rw [e9]; assumption) | omega | (have h9 := hO_35.lt; omega))
      have h_62 := h_61.up hU_53 (by first | assumption | exact Ne.symm (by assumption) | exact fun e9 => hmpM (by rw [e9]; assumption) | omega | (have h9 := h_61.lt; omega))
      exact kx_vret hx hb hr hlk (⟨lf1, rt9, pr9, (some nr), h_62, hTN_59, by exact ⟨pr1, by rw [hE1, hm9], by rw [hE_60, hE_29], Or.inl ⟨h29 ▸ hg9, rfl, by rw [hE_50], by rw [hE_14]⟩⟩⟩) hS_57 dJ28_rotateRight_95
    · -- hg9 s
      have hgM : ng ∈ M := hpg ng (hpp9.symm.trans (h29.symm.trans hg9))
      obtain ⟨hBN_64, hN_63⟩ := hTN_28 ng (hgM)
      refine lv_aload_n hx hb dJ28_rotateRight_40 rfl (lv_at hl 2 rfl) ?_
      refine kx_get (v := va_rf (pr2 np)) (C := RJ29) (T := TJ29) (N := 6) hx hb hts in_J29 hown hK hN_30 rfl 4 (by decide) q856 (fun _ h9 => h9) rfl dJ28_rotateRight_41 ?_
      refine kx_eqq hx hb (b := ng) (hg9) ?_
      refine lv_ifnonnull (tgt := 55) hx hb dJ28_rotateRight_44 (by decide) ?_
      refine lv_aload_n hx hb dJ28_rotateRight_55 rfl (lv_at hl 2 rfl) ?_
      refine kx_get (v := va_rf (pr2 np)) (C := RJ29) (T := TJ29) (N := 6) hx hb hts in_J29 hown hK hN_30 rfl 4 (by decide) q856 (fun _ h9 => h9) rfl dJ28_rotateRight_56 ?_
      refine kx_eqq hx hb (b := ng) (hg9) ?_
      refine kx_get (v := va_rf (rt ng)) (C := RJ29) (T := TJ29) (N := 6) hx hb hts in_J29 hown hK hN_63 rfl 3 (by decide) q854 (fun _ h9 => h9) rfl dJ28_rotateRight_59 ?_
      refine lv_aload_n hx hb dJ28_rotateRight_62 rfl (lv_at hl 2 rfl) ?_
      by_cases hlg : rt ng = some np
      · -- hlg t
        refine lv_acmp_ne (rx := rt ng) (ry := some np) (tgt := 77) hx hb dJ28_rotateRight_63 (by decide) (fun ca_65 => absurd (by exact hlg) ca_65) (fun ca_65 => ?_)
        refine lv_aload_n hx hb dJ28_rotateRight_66 rfl (lv_at hl 2 rfl) ?_
        refine kx_get (v := va_rf (pr2 np)) (C := RJ29) (T := TJ29) (N := 6) hx hb hts in_J29 hown hK hN_30 rfl 4 (by decide) q856 (fun _ h9 => h9) rfl dJ28_rotateRight_67 ?_
        refine kx_eqq hx hb (b := ng) (hg9) ?_
        refine lv_aload_n hx hb dJ28_rotateRight_70 rfl (lv_at hl 0 rfl) ?_
        refine kx_put (v := .ref nr) (C := RJ29) (T := TJ29) (N := 6) hx hb hts in_J29 hown hK hN_63 rfl 3 (by decide) tyJ29 tyJ29_ok nmJ29 hS_26 (Or.inr hgM) q854 (fun _ h9 => h9) rfl rfl rfl rfl (Nat.le_of_ble_eq_true rfl) dJ28_rotateRight_71 (fun H_68 locs_69 hO_67 hU_66 hS_70 => ?_)
        have hO_67 : kO D H_68 ng 16 [.ref (kf ng), .ref (vf ng), va_rf (lf1 ng), .ref nr, va_rf (pr2 ng), .int (kI (kb (co ng)))] := hO_67
        have hzu_71 := hU_66.1
        refine lv_goto (tgt := 85) hx hb dJ28_rotateRight_74 (by decide) ?_
        obtain ⟨rt1, hE_73⟩ : ∃ f, f = (kupq rt ng (some nr)) := ⟨_, rfl⟩
        have hTN_72 : kTN D H_68 M kf vf lf1 rt1 pr2 co := by rw [hE_73]; exact hTN_28.rt hU_66 hO_67
        obtain ⟨hBN_75, hN_74⟩ := hTN_72 nr (hrM)
        refine lv_aload_n hx hb dJ28_rotateRight_85 rfl (lv_at hl 0 rfl) ?_
        refine lv_aload_n hx hb dJ28_rotateRight_86 rfl (lv_at hl 2 rfl) ?_
        refine kx_put (v := .ref np) (C := RJ29) (T := TJ29) (N := 6) hx hb hts in_J29 hown hK hN_74 rfl 3 (by decide) tyJ29 tyJ29_ok nmJ29 hS_70 (Or.inr hrM) q854 (fun _ h9 => h9) rfl rfl rfl rfl (Nat.le_of_ble_eq_true rfl) dJ28_rotateRight_87 (fun H_78 locs_79 hO_77 hU_76 hS_80 => ?_)
        have hO_77 : kO D H_78 nr 16 [.ref (kf nr), .ref (vf nr), va_rf (lf1 nr), .ref np, va_rf (pr2 nr), .int (kI (kb (co nr)))] := hO_77
        have hzu_81 := hU_76.1
        obtain ⟨rt9, hE_83⟩ : ∃ f, f = (kupq rt1 nr (some np)) := ⟨_, rfl⟩
        have hTN_82 : kTN D H_78 M kf vf lf1 rt9 pr2 co := by rw [hE_83]; exact hTN_72.rt hU_76 hO_77
        obtain ⟨hBN_85, hN_84⟩ := hTN_82 np (hpM)
        refine lv_aload_n hx hb dJ28_rotateRight_90 rfl (lv_at hl 2 rfl) ?_
        refine lv_aload_n hx hb dJ28_rotateRight_91 rfl (lv_at hl 0 rfl) ?_
        refine kx_put (v := .ref nr) (C := RJ29) (T := TJ29) (N := 6) hx hb hts in_J29 hown hK hN_84 rfl 4 (by decide) tyJ29 tyJ29_ok nmJ29 hS_80 (Or.inr hpM) q856 (fun _ h9 => h9) rfl rfl rfl rfl (Nat.le_of_ble_eq_true rfl) dJ28_rotateRight_92 (fun H_88 locs_89 hO_87 hU_86 hS_90 => ?_)
        have hO_87 : kO D H_88 np 16 [.ref (kf np), .ref (vf np), va_rf (lf1 np), va_rf (rt9 np), .ref nr, .int (kI (kb (co np)))] := hO_87
        have hzu_91 := hU_86.1
        obtain ⟨pr9, hE_93⟩ : ∃ f, f = (kupq pr2 np (some nr)) := ⟨_, rfl⟩
        have hTN_92 : kTN D H_88 M kf vf lf1 rt9 pr9 co := by rw [hE_93]; exact hTN_82.pr hU_86 hO_87
        have h_94 := hO_mp.up hU_7 (by first | assumption | exact Ne.symm (by assumption) | exact fun e9 => hmpM (by rw [e9]; assumption) | omega | (have h9 := hO_mp.lt; omega))
        have h_95 := h_94.up hU_22 (by first | assumption | exact Ne.symm (by assumption) | exact fun e9 => hmpM (by rw [e9]; assumption) | omega | (have h9 := h_94.lt; omega))
        have h_96 := h_95.up hU_66 (by first | assumption | exact Ne.symm (by assumption) | exact fun e9 => hmpM (by rw [e9]; assumption) | omega | (have h9 := h_95.lt; omega))
        have h_97 := h_96.up hU_76 (by first | assumption | exact Ne.symm (by assumption) | exact fun e9 => hmpM (by rw [e9]; assumption) | omega | (have h9 := h_96.lt; omega))
        have h_98 := h_97.up hU_86 (by first | assumption | exact Ne.symm (by assumption) | exact fun e9 => hmpM (by rw [e9]; assumption) | omega | (have h9 := h_97.lt; omega))
        exact kx_vret hx hb hr hlk (⟨lf1, rt9, pr9, ro, h_98, hTN_92, by exact ⟨pr1, by rw [hE1, hm9], by rw [hE_93, hE_29], Or.inr ⟨ng, h29 ▸ hg9, rfl, Or.inl ⟨hlg, by rw [hE_83, hE_73], by rw [hE_14]⟩⟩⟩⟩) hS_90 dJ28_rotateRight_95
      · -- hlg f
        refine lv_acmp_ne (rx := rt ng) (ry := some np) (tgt := 77) hx hb dJ28_rotateRight_63 (by decide) (fun ca_99 => ?_) (fun ca_99 => absurd ca_99 (by exact hlg))
        refine lv_aload_n hx hb dJ28_rotateRight_77 rfl (lv_at hl 2 rfl) ?_
        refine kx_get (v := va_rf (pr2 np)) (C := RJ29) (T := TJ29) (N := 6) hx hb hts in_J29 hown hK hN_30 rfl 4 (by decide) q856 (fun _ h9 => h9) rfl dJ28_rotateRight_78 ?_
        refine kx_eqq hx hb (b := ng) (hg9) ?_
        refine lv_aload_n hx hb dJ28_rotateRight_81 rfl (lv_at hl 0 rfl) ?_
        refine kx_put (v := .ref nr) (C := RJ29) (T := TJ29) (N := 6) hx hb hts in_J29 hown hK hN_63 rfl 2 (by decide) tyJ29 tyJ29_ok nmJ29 hS_26 (Or.inr hgM) q853 (fun _ h9 => h9) rfl rfl rfl rfl (Nat.le_of_ble_eq_true rfl) dJ28_rotateRight_82 (fun H_102 locs_103 hO_101 hU_100 hS_104 => ?_)
        have hO_101 : kO D H_102 ng 16 [.ref (kf ng), .ref (vf ng), .ref nr, va_rf (rt ng), va_rf (pr2 ng), .int (kI (kb (co ng)))] := hO_101
        have hzu_105 := hU_100.1
        obtain ⟨lf3, hE_107⟩ : ∃ f, f = (kupq lf1 ng (some nr)) := ⟨_, rfl⟩
        have hTN_106 : kTN D H_102 M kf vf lf3 rt pr2 co := by rw [hE_107]; exact hTN_28.lf hU_100 hO_101
        obtain ⟨hBN_109, hN_108⟩ := hTN_106 nr (hrM)
        refine lv_aload_n hx hb dJ28_rotateRight_85 rfl (lv_at hl 0 rfl) ?_
        refine lv_aload_n hx hb dJ28_rotateRight_86 rfl (lv_at hl 2 rfl) ?_
        refine kx_put (v := .ref np) (C := RJ29) (T := TJ29) (N := 6) hx hb hts in_J29 hown hK hN_108 rfl 3 (by decide) tyJ29 tyJ29_ok nmJ29 hS_104 (Or.inr hrM) q854 (fun _ h9 => h9) rfl rfl rfl rfl (Nat.le_of_ble_eq_true rfl) dJ28_rotateRight_87 (fun H_112 locs_113 hO_111 hU_110 hS_114 => ?_)
        have hO_111 : kO D H_112 nr 16 [.ref (kf nr), .ref (vf nr), va_rf (lf3 nr), .ref np, va_rf (pr2 nr), .int (kI (kb (co nr)))] := hO_111
        have hzu_115 := hU_110.1
        obtain ⟨rt9, hE_117⟩ : ∃ f, f = (kupq rt nr (some np)) := ⟨_, rfl⟩
        have hTN_116 : kTN D H_112 M kf vf lf3 rt9 pr2 co := by rw [hE_117]; exact hTN_106.rt hU_110 hO_111
        obtain ⟨hBN_119, hN_118⟩ := hTN_116 np (hpM)
        refine lv_aload_n hx hb dJ28_rotateRight_90 rfl (lv_at hl 2 rfl) ?_
        refine lv_aload_n hx hb dJ28_rotateRight_91 rfl (lv_at hl 0 rfl) ?_
        refine kx_put (v := .ref nr) (C := RJ29) (T := TJ29) (N := 6) hx hb hts in_J29 hown hK hN_118 rfl 4 (by decide) tyJ29 tyJ29_ok nmJ29 hS_114 (Or.inr hpM) q856 (fun _ h9 => h9) rfl rfl rfl rfl (Nat.le_of_ble_eq_true rfl) dJ28_rotateRight_92 (fun H_122 locs_123 hO_121 hU_120 hS_124 => ?_)
        have hO_121 : kO D H_122 np 16 [.ref (kf np), .ref (vf np), va_rf (lf3 np), va_rf (rt9 np), .ref nr, .int (kI (kb (co np)))] := hO_121
        have hzu_125 := hU_120.1
        obtain ⟨pr9, hE_127⟩ : ∃ f, f = (kupq pr2 np (some nr)) := ⟨_, rfl⟩
        have hTN_126 : kTN D H_122 M kf vf lf3 rt9 pr9 co := by rw [hE_127]; exact hTN_116.pr hU_120 hO_121
        have h_128 := hO_mp.up hU_7 (by first | assumption | exact Ne.symm (by assumption) | exact fun e9 => hmpM (by rw [e9]; assumption) | omega | (have h9 := hO_mp.lt; omega))
        have h_129 := h_128.up hU_22 (by first | assumption | exact Ne.symm (by assumption) | exact fun e9 => hmpM (by rw [e9]; assumption) | omega | (have h9 := h_128.lt; omega))
        have h_130 := h_129.up hU_100 (by first | assumption | exact Ne.symm (by assumption) | exact fun e9 => hmpM (by rw [e9]; assumption) | omega | (have h9 := h_129.lt; omega))
        have h_131 := h_130.up hU_110 (by first | assumption | exact Ne.symm (by assumption) | exact fun e9 => hmpM (by rw [e9]; assumption) | omega | (have h9 := h_130.lt; omega))
        have h_132 := h_131.up hU_120 (by first | assumption | exact Ne.symm (by assumption) | exact fun e9 => hmpM (by rw [e9]; assumption) | omega | (have h9 := h_131.lt; omega))
        exact kx_vret hx hb hr hlk (⟨lf3, rt9, pr9, ro, h_132, hTN_126, by exact ⟨pr1, by rw [hE1, hm9], by rw [hE_127, hE_29], Or.inr ⟨ng, h29 ▸ hg9, rfl, Or.inr ⟨hlg, by rw [hE_117], by rw [hE_107, hE_14]⟩⟩⟩⟩) hS_124 dJ28_rotateRight_95
  · -- hm9 s
    have hmM : nm ∈ M := hlm nm hm9
    refine lv_aload_n hx hb dJ28_rotateRight_17 rfl (lv_at hl 0 rfl) ?_
    refine kx_get (v := va_rf (rt nr)) (C := RJ29) (T := TJ29) (N := 6) hx hb hts in_J29 hown hK hN_15 rfl 3 (by decide) q854 (fun _ h9 => h9) rfl dJ28_rotateRight_18 ?_
    refine kx_eqq hx hb (b := nm) (hm9) ?_
    refine lv_ifnull hx hb dJ28_rotateRight_21 ?_
    refine lv_aload_n hx hb dJ28_rotateRight_24 rfl (lv_at hl 0 rfl) ?_
    refine kx_get (v := va_rf (rt nr)) (C := RJ29) (T := TJ29) (N := 6) hx hb hts in_J29 hown hK hN_15 rfl 3 (by decide) q854 (fun _ h9 => h9) rfl dJ28_rotateRight_25 ?_
    refine kx_eqq hx hb (b := nm) (hm9) ?_
    obtain ⟨hBN_134, hN_133⟩ := hTN_13 nm (hmM)
    refine lv_aload_n hx hb dJ28_rotateRight_28 rfl (lv_at hl 2 rfl) ?_
    refine kx_put (v := .ref np) (C := RJ29) (T := TJ29) (N := 6) hx hb hts in_J29 hown hK hN_133 rfl 4 (by decide) tyJ29 tyJ29_ok nmJ29 hS_11 (Or.inr hmM) q856 (fun _ h9 => h9) rfl rfl rfl rfl (Nat.le_of_ble_eq_true rfl) dJ28_rotateRight_29 (fun H_137 locs_138 hO_136 hU_135 hS_139 => ?_)
    have hO_136 : kO D H_137 nm 16 [.ref (kf nm), .ref (vf nm), va_rf (lf1 nm), va_rf (rt nm), .ref np, .int (kI (kb (co nm)))] := hO_136
    have hzu_140 := hU_135.1
    obtain ⟨pr1, hE_142⟩ : ∃ f, f = (kupq pr nm (some np)) := ⟨_, rfl⟩
    have hTN_141 : kTN D H_137 M kf vf lf1 rt pr1 co := by rw [hE_142]; exact hTN_13.pr hU_135 hO_136
    have hpp9 : pr1 np = pr np := by rw [hE_142]; exact kupq_ne (fun e9 => hmp nm hm9 e9.symm)
    obtain ⟨hBN_144, hN_143⟩ := hTN_141 nr (hrM)
    obtain ⟨hBN_146, hN_145⟩ := hTN_141 np (hpM)
    refine lv_aload_n hx hb dJ28_rotateRight_32 rfl (lv_at hl 0 rfl) ?_
    refine lv_aload_n hx hb dJ28_rotateRight_33 rfl (lv_at hl 2 rfl) ?_
    refine kx_get (v := va_rf (pr1 np)) (C := RJ29) (T := TJ29) (N := 6) hx hb hts in_J29 hown hK hN_145 rfl 4 (by decide) q856 (fun _ h9 => h9) rfl dJ28_rotateRight_34 ?_
    refine kx_put (v := va_rf (pr1 np)) (C := RJ29) (T := TJ29) (N := 6) hx hb hts in_J29 hown hK hN_143 rfl 4 (by decide) tyJ29 tyJ29_ok nmJ29 hS_139 (Or.inr hrM) q856 (fun _ h9 => h9) rfl rfl rfl (op_fit _) (Nat.le_of_ble_eq_true rfl) dJ28_rotateRight_37 (fun H_149 locs_150 hO_148 hU_147 hS_151 => ?_)
    have hO_148 : kO D H_149 nr 16 [.ref (kf nr), .ref (vf nr), va_rf (lf1 nr), va_rf (rt nr), va_rf (pr1 np), .int (kI (kb (co nr)))] := hO_148
    have hzu_152 := hU_147.1
    obtain ⟨pr2, hE_154⟩ : ∃ f, f = (kupq pr1 nr (pr1 np)) := ⟨_, rfl⟩
    have hTN_153 : kTN D H_149 M kf vf lf1 rt pr2 co := by rw [hE_154]; exact hTN_141.pr hU_147 hO_148
    have h29 : pr2 np = pr1 np := by rw [hE_154]; exact kupq_ne hpr
    obtain ⟨hBN_156, hN_155⟩ := hTN_153 np (hpM)
    rcases op_cases (pr2 np) with hg9 | ⟨ng, hg9⟩
    · -- hg9 n
      refine lv_aload_n hx hb dJ28_rotateRight_40 rfl (lv_at hl 2 rfl) ?_
      refine kx_get (v := va_rf (pr2 np)) (C := RJ29) (T := TJ29) (N := 6) hx hb hts in_J29 hown hK hN_155 rfl 4 (by decide) q856 (fun _ h9 => h9) rfl dJ28_rotateRight_41 ?_
      refine kx_eqqN hx hb (hg9) ?_
      refine lv_ifnonnullN hx hb dJ28_rotateRight_44 ?_
      refine lv_aload_n hx hb dJ28_rotateRight_47 rfl (lv_at hl 1 rfl) ?_
      refine lv_aload_n hx hb dJ28_rotateRight_48 rfl (lv_at hl 0 rfl) ?_
      have h_157 := hO_mp.up hU_7 (by first | assumption | exact Ne.symm (by assumption) | exact fun e9 => hmpM (by rw [e9]; assumption) | omega | (have h9 := hO_mp.lt; omega))
      have h_158 := h_157.up hU_135 (by first | assumption | exact Ne.symm (by assumption) | exact fun e9 => hmpM (by rw [e9]; assumption) | omega | (have h9 := h_157.lt; omega))
      have h_159 := h_158.up hU_147 (by first | assumption | exact Ne.symm (by assumption) | exact fun e9 => hmpM (by rw [e9]; assumption) | omega | (have h9 := h_158.lt; omega))
      refine kx_put (v := .ref nr) (C := RJ28) (T := TJ28) (N := 9) hx hb hts in_J28 hown hK h_159 rfl 3 (by decide) tyJ28 tyJ28_ok nmJ28 hS_151 (Or.inl rfl) q543 (fun _ h9 => h9) rfl rfl rfl rfl (Nat.le_of_ble_eq_true rfl) dJ28_rotateRight_49 (fun H_162 locs_163 hO_161 hU_160 hS_164 => ?_)
      have hO_161 : kO D H_162 mp 15 [.null, .null, .null, .ref nr, .int (kI ((sz : Nat) : Int)), .int (kI (mc)), .null, va_rf (ks), .null] := hO_161
      have hzu_165 := hU_160.1
      refine lv_goto (tgt := 85) hx hb dJ28_rotateRight_52 (by decide) ?_
      have h_166 := hTN_153.up hU_160 (by first | assumption | exact Ne.symm (by assumption) | exact fun e9 => hmpM (by rw [e9]; assumption) | omega | (have h9 := hTN_153.lt; omega))
      obtain ⟨hBN_168, hN_167⟩ := h_166 nr (hrM)
      refine lv_aload_n hx hb dJ28_rotateRight_85 rfl (lv_at hl 0 rfl) ?_
      refine lv_aload_n hx hb dJ28_rotateRight_86 rfl (lv_at hl 2 rfl) ?_
      refine kx_put (v := .ref np) (C := RJ29) (T := TJ29) (N := 6) hx hb hts in_J29 hown hK hN_167 rfl 3 (by decide) tyJ29 tyJ29_ok nmJ29 hS_164 (Or.inr hrM) q854 (fun _ h9 => h9) rfl rfl rfl rfl (Nat.le_of_ble_eq_true rfl) dJ28_rotateRight_87 (fun H_171 locs_172 hO_170 hU_169 hS_173 => ?_)
      have hO_170 : kO D H_171 nr 16 [.ref (kf nr), .ref (vf nr), va_rf (lf1 nr), .ref np, va_rf (pr2 nr), .int (kI (kb (co nr)))] := hO_170
      have hzu_174 := hU_169.1
      obtain ⟨rt9, hE_176⟩ : ∃ f, f = (kupq rt nr (some np)) := ⟨_, rfl⟩
      have hTN_175 : kTN D H_171 M kf vf lf1 rt9 pr2 co := by rw [hE_176]; exact h_166.rt hU_169 hO_170
      obtain ⟨hBN_178, hN_177⟩ := hTN_175 np (hpM)
      refine lv_aload_n hx hb dJ28_rotateRight_90 rfl (lv_at hl 2 rfl) ?_
      refine lv_aload_n hx hb dJ28_rotateRight_91 rfl (lv_at hl 0 rfl) ?_
      refine kx_put (v := .ref nr) (C := RJ29) (T := TJ29) (N := 6) hx hb hts in_J29 hown hK hN_177 rfl 4 (by decide) tyJ29 tyJ29_ok nmJ29 hS_173 (Or.inr hpM) q856 (fun _ h9 => h9) rfl rfl rfl rfl (Nat.le_of_ble_eq_true rfl) dJ28_rotateRight_92 (fun H_181 locs_182 hO_180 hU_179 hS_183 => ?_)
      have hO_180 : kO D H_181 np 16 [.ref (kf np), .ref (vf np), va_rf (lf1 np), va_rf (rt9 np), .ref nr, .int (kI (kb (co np)))] := hO_180
      have hzu_184 := hU_179.1
      obtain ⟨pr9, hE_186⟩ : ∃ f, f = (kupq pr2 np (some nr)) := ⟨_, rfl⟩
      have hTN_185 : kTN D H_181 M kf vf lf1 rt9 pr9 co := by rw [hE_186]; exact hTN_175.pr hU_179 hO_180
      have h_187 := hO_161.up hU_169 (by first | assumption | exact Ne.symm (by assumption) | exact fun e9 => hmpM (by rw [e9]; assumption) | omega | (have h9 := hO_161.lt; omega))
      have h_188 := h_187.up hU_179 (by first | assumption | exact Ne.symm (by assumption) | exact fun e9 => hmpM (by rw [e9]; assumption) | omega | (have h9 := h_187.lt; omega))
      exact kx_vret hx hb hr hlk (⟨lf1, rt9, pr9, (some nr), h_188, hTN_185, by exact ⟨pr1, by rw [hE_142, hm9], by rw [hE_186, hE_154], Or.inl ⟨h29 ▸ hg9, rfl, by rw [hE_176], by rw [hE_14]⟩⟩⟩) hS_183 dJ28_rotateRight_95
    · -- hg9 s
      have hgM : ng ∈ M := hpg ng (hpp9.symm.trans (h29.symm.trans hg9))
      obtain ⟨hBN_190, hN_189⟩ := hTN_153 ng (hgM)
      refine lv_aload_n hx hb dJ28_rotateRight_40 rfl (lv_at hl 2 rfl) ?_
      refine kx_get (v := va_rf (pr2 np)) (C := RJ29) (T := TJ29) (N := 6) hx hb hts in_J29 hown hK hN_155 rfl 4 (by decide) q856 (fun _ h9 => h9) rfl dJ28_rotateRight_41 ?_
      refine kx_eqq hx hb (b := ng) (hg9) ?_
      refine lv_ifnonnull (tgt := 55) hx hb dJ28_rotateRight_44 (by decide) ?_
      refine lv_aload_n hx hb dJ28_rotateRight_55 rfl (lv_at hl 2 rfl) ?_
      refine kx_get (v := va_rf (pr2 np)) (C := RJ29) (T := TJ29) (N := 6) hx hb hts in_J29 hown hK hN_155 rfl 4 (by decide) q856 (fun _ h9 => h9) rfl dJ28_rotateRight_56 ?_
      refine kx_eqq hx hb (b := ng) (hg9) ?_
      refine kx_get (v := va_rf (rt ng)) (C := RJ29) (T := TJ29) (N := 6) hx hb hts in_J29 hown hK hN_189 rfl 3 (by decide) q854 (fun _ h9 => h9) rfl dJ28_rotateRight_59 ?_
      refine lv_aload_n hx hb dJ28_rotateRight_62 rfl (lv_at hl 2 rfl) ?_
      by_cases hlg : rt ng = some np
      · -- hlg t
        refine lv_acmp_ne (rx := rt ng) (ry := some np) (tgt := 77) hx hb dJ28_rotateRight_63 (by decide) (fun ca_191 => absurd (by exact hlg) ca_191) (fun ca_191 => ?_)
        refine lv_aload_n hx hb dJ28_rotateRight_66 rfl (lv_at hl 2 rfl) ?_
        refine kx_get (v := va_rf (pr2 np)) (C := RJ29) (T := TJ29) (N := 6) hx hb hts in_J29 hown hK hN_155 rfl 4 (by decide) q856 (fun _ h9 => h9) rfl dJ28_rotateRight_67 ?_
        refine kx_eqq hx hb (b := ng) (hg9) ?_
        refine lv_aload_n hx hb dJ28_rotateRight_70 rfl (lv_at hl 0 rfl) ?_
        refine kx_put (v := .ref nr) (C := RJ29) (T := TJ29) (N := 6) hx hb hts in_J29 hown hK hN_189 rfl 3 (by decide) tyJ29 tyJ29_ok nmJ29 hS_151 (Or.inr hgM) q854 (fun _ h9 => h9) rfl rfl rfl rfl (Nat.le_of_ble_eq_true rfl) dJ28_rotateRight_71 (fun H_194 locs_195 hO_193 hU_192 hS_196 => ?_)
        have hO_193 : kO D H_194 ng 16 [.ref (kf ng), .ref (vf ng), va_rf (lf1 ng), .ref nr, va_rf (pr2 ng), .int (kI (kb (co ng)))] := hO_193
        have hzu_197 := hU_192.1
        refine lv_goto (tgt := 85) hx hb dJ28_rotateRight_74 (by decide) ?_
        obtain ⟨rt1, hE_199⟩ : ∃ f, f = (kupq rt ng (some nr)) := ⟨_, rfl⟩
        have hTN_198 : kTN D H_194 M kf vf lf1 rt1 pr2 co := by rw [hE_199]; exact hTN_153.rt hU_192 hO_193
        obtain ⟨hBN_201, hN_200⟩ := hTN_198 nr (hrM)
        refine lv_aload_n hx hb dJ28_rotateRight_85 rfl (lv_at hl 0 rfl) ?_
        refine lv_aload_n hx hb dJ28_rotateRight_86 rfl (lv_at hl 2 rfl) ?_
        refine kx_put (v := .ref np) (C := RJ29) (T := TJ29) (N := 6) hx hb hts in_J29 hown hK hN_200 rfl 3 (by decide) tyJ29 tyJ29_ok nmJ29 hS_196 (Or.inr hrM) q854 (fun _ h9 => h9) rfl rfl rfl rfl (Nat.le_of_ble_eq_true rfl) dJ28_rotateRight_87 (fun H_204 locs_205 hO_203 hU_202 hS_206 => ?_)
        have hO_203 : kO D H_204 nr 16 [.ref (kf nr), .ref (vf nr), va_rf (lf1 nr), .ref np, va_rf (pr2 nr), .int (kI (kb (co nr)))] := hO_203
        have hzu_207 := hU_202.1
        obtain ⟨rt9, hE_209⟩ : ∃ f, f = (kupq rt1 nr (some np)) := ⟨_, rfl⟩
        have hTN_208 : kTN D H_204 M kf vf lf1 rt9 pr2 co := by rw [hE_209]; exact hTN_198.rt hU_202 hO_203
        obtain ⟨hBN_211, hN_210⟩ := hTN_208 np (hpM)
        refine lv_aload_n hx hb dJ28_rotateRight_90 rfl (lv_at hl 2 rfl) ?_
        refine lv_aload_n hx hb dJ28_rotateRight_91 rfl (lv_at hl 0 rfl) ?_
        refine kx_put (v := .ref nr) (C := RJ29) (T := TJ29) (N := 6) hx hb hts in_J29 hown hK hN_210 rfl 4 (by decide) tyJ29 tyJ29_ok nmJ29 hS_206 (Or.inr hpM) q856 (fun _ h9 => h9) rfl rfl rfl rfl (Nat.le_of_ble_eq_true rfl) dJ28_rotateRight_92 (fun H_214 locs_215 hO_213 hU_212 hS_216 => ?_)
        have hO_213 : kO D H_214 np 16 [.ref (kf np), .ref (vf np), va_rf (lf1 np), va_rf (rt9 np), .ref nr, .int (kI (kb (co np)))] := hO_213
        have hzu_217 := hU_212.1
        obtain ⟨pr9, hE_219⟩ : ∃ f, f = (kupq pr2 np (some nr)) := ⟨_, rfl⟩
        have hTN_218 : kTN D H_214 M kf vf lf1 rt9 pr9 co := by rw [hE_219]; exact hTN_208.pr hU_212 hO_213
        have h_220 := hO_mp.up hU_7 (by first | assumption | exact Ne.symm (by assumption) | exact fun e9 => hmpM (by rw [e9]; assumption) | omega | (have h9 := hO_mp.lt; omega))
        have h_221 := h_220.up hU_135 (by first | assumption | exact Ne.symm (by assumption) | exact fun e9 => hmpM (by rw [e9]; assumption) | omega | (have h9 := h_220.lt; omega))
        have h_222 := h_221.up hU_147 (by first | assumption | exact Ne.symm (by assumption) | exact fun e9 => hmpM (by rw [e9]; assumption) | omega | (have h9 := h_221.lt; omega))
        have h_223 := h_222.up hU_192 (by first | assumption | exact Ne.symm (by assumption) | exact fun e9 => hmpM (by rw [e9]; assumption) | omega | (have h9 := h_222.lt; omega))
        have h_224 := h_223.up hU_202 (by first | assumption | exact Ne.symm (by assumption) | exact fun e9 => hmpM (by rw [e9]; assumption) | omega | (have h9 := h_223.lt; omega))
        have h_225 := h_224.up hU_212 (by first | assumption | exact Ne.symm (by assumption) | exact fun e9 => hmpM (by rw [e9]; assumption) | omega | (have h9 := h_224.lt; omega))
        exact kx_vret hx hb hr hlk (⟨lf1, rt9, pr9, ro, h_225, hTN_218, by exact ⟨pr1, by rw [hE_142, hm9], by rw [hE_219, hE_154], Or.inr ⟨ng, h29 ▸ hg9, rfl, Or.inl ⟨hlg, by rw [hE_209, hE_199], by rw [hE_14]⟩⟩⟩⟩) hS_216 dJ28_rotateRight_95
      · -- hlg f
        refine lv_acmp_ne (rx := rt ng) (ry := some np) (tgt := 77) hx hb dJ28_rotateRight_63 (by decide) (fun ca_226 => ?_) (fun ca_226 => absurd ca_226 (by exact hlg))
        refine lv_aload_n hx hb dJ28_rotateRight_77 rfl (lv_at hl 2 rfl) ?_
        refine kx_get (v := va_rf (pr2 np)) (C := RJ29) (T := TJ29) (N := 6) hx hb hts in_J29 hown hK hN_155 rfl 4 (by decide) q856 (fun _ h9 => h9) rfl dJ28_rotateRight_78 ?_
        refine kx_eqq hx hb (b := ng) (hg9) ?_
        refine lv_aload_n hx hb dJ28_rotateRight_81 rfl (lv_at hl 0 rfl) ?_
        refine kx_put (v := .ref nr) (C := RJ29) (T := TJ29) (N := 6) hx hb hts in_J29 hown hK hN_189 rfl 2 (by decide) tyJ29 tyJ29_ok nmJ29 hS_151 (Or.inr hgM) q853 (fun _ h9 => h9) rfl rfl rfl rfl (Nat.le_of_ble_eq_true rfl) dJ28_rotateRight_82 (fun H_229 locs_230 hO_228 hU_227 hS_231 => ?_)
        have hO_228 : kO D H_229 ng 16 [.ref (kf ng), .ref (vf ng), .ref nr, va_rf (rt ng), va_rf (pr2 ng), .int (kI (kb (co ng)))] := hO_228
        have hzu_232 := hU_227.1
        obtain ⟨lf3, hE_234⟩ : ∃ f, f = (kupq lf1 ng (some nr)) := ⟨_, rfl⟩
        have hTN_233 : kTN D H_229 M kf vf lf3 rt pr2 co := by rw [hE_234]; exact hTN_153.lf hU_227 hO_228
        obtain ⟨hBN_236, hN_235⟩ := hTN_233 nr (hrM)
        refine lv_aload_n hx hb dJ28_rotateRight_85 rfl (lv_at hl 0 rfl) ?_
        refine lv_aload_n hx hb dJ28_rotateRight_86 rfl (lv_at hl 2 rfl) ?_
        refine kx_put (v := .ref np) (C := RJ29) (T := TJ29) (N := 6) hx hb hts in_J29 hown hK hN_235 rfl 3 (by decide) tyJ29 tyJ29_ok nmJ29 hS_231 (Or.inr hrM) q854 (fun _ h9 => h9) rfl rfl rfl rfl (Nat.le_of_ble_eq_true rfl) dJ28_rotateRight_87 (fun H_239 locs_240 hO_238 hU_237 hS_241 => ?_)
        have hO_238 : kO D H_239 nr 16 [.ref (kf nr), .ref (vf nr), va_rf (lf3 nr), .ref np, va_rf (pr2 nr), .int (kI (kb (co nr)))] := hO_238
        have hzu_242 := hU_237.1
        obtain ⟨rt9, hE_244⟩ : ∃ f, f = (kupq rt nr (some np)) := ⟨_, rfl⟩
        have hTN_243 : kTN D H_239 M kf vf lf3 rt9 pr2 co := by rw [hE_244]; exact hTN_233.rt hU_237 hO_238
        obtain ⟨hBN_246, hN_245⟩ := hTN_243 np (hpM)
        refine lv_aload_n hx hb dJ28_rotateRight_90 rfl (lv_at hl 2 rfl) ?_
        refine lv_aload_n hx hb dJ28_rotateRight_91 rfl (lv_at hl 0 rfl) ?_
        refine kx_put (v := .ref nr) (C := RJ29) (T := TJ29) (N := 6) hx hb hts in_J29 hown hK hN_245 rfl 4 (by decide) tyJ29 tyJ29_ok nmJ29 hS_241 (Or.inr hpM) q856 (fun _ h9 => h9) rfl rfl rfl rfl (Nat.le_of_ble_eq_true rfl) dJ28_rotateRight_92 (fun H_249 locs_250 hO_248 hU_247 hS_251 => ?_)
        have hO_248 : kO D H_249 np 16 [.ref (kf np), .ref (vf np), va_rf (lf3 np), va_rf (rt9 np), .ref nr, .int (kI (kb (co np)))] := hO_248
        have hzu_252 := hU_247.1
        obtain ⟨pr9, hE_254⟩ : ∃ f, f = (kupq pr2 np (some nr)) := ⟨_, rfl⟩
        have hTN_253 : kTN D H_249 M kf vf lf3 rt9 pr9 co := by rw [hE_254]; exact hTN_243.pr hU_247 hO_248
        have h_255 := hO_mp.up hU_7 (by first | assumption | exact Ne.symm (by assumption) | exact fun e9 => hmpM (by rw [e9]; assumption) | omega | (have h9 := hO_mp.lt; omega))
        have h_256 := h_255.up hU_135 (by first | assumption | exact Ne.symm (by assumption) | exact fun e9 => hmpM (by rw [e9]; assumption) | omega | (have h9 := h_255.lt; omega))
        have h_257 := h_256.up hU_147 (by first | assumption | exact Ne.symm (by assumption) | exact fun e9 => hmpM (by rw [e9]; assumption) | omega | (have h9 := h_256.lt; omega))
        have h_258 := h_257.up hU_227 (by first | assumption | exact Ne.symm (by assumption) | exact fun e9 => hmpM (by rw [e9]; assumption) | omega | (have h9 := h_257.lt; omega))
        have h_259 := h_258.up hU_237 (by first | assumption | exact Ne.symm (by assumption) | exact fun e9 => hmpM (by rw [e9]; assumption) | omega | (have h9 := h_258.lt; omega))
        have h_260 := h_259.up hU_247 (by first | assumption | exact Ne.symm (by assumption) | exact fun e9 => hmpM (by rw [e9]; assumption) | omega | (have h9 := h_259.lt; omega))
        exact kx_vret hx hb hr hlk (⟨lf3, rt9, pr9, ro, h_260, hTN_253, by exact ⟨pr1, by rw [hE_142, hm9], by rw [hE_254, hE_154], Or.inr ⟨ng, h29 ▸ hg9, rfl, Or.inr ⟨hlg, by rw [hE_244], by rw [hE_234, hE_14]⟩⟩⟩⟩) hS_251 dJ28_rotateRight_95

