/-! CORE 3: statics -/
section KX3
variable {p : Program} {l : Launch} {e : Env} {R : Room} {s : State} {m : MethodId} {args : Array Value} {below : List Frame} {meth : Method} {c : Code} {H : Heap} {locs : List Loc} {cells slots : Nat} {Q : State → Prop}
variable {cc : ByteArray} {pc : Nat} {ls : Array Slot} {rest : List Value} {D : kG} {A : Nat → Prop}
theorem kx_gets (hx : p.tables.exec = Jvm.exec) (hb : c.code = cc) {C n d own ref : String} {v : Value} {index : Nat} (hts : ∀ w ∈ lw_all, w.before args s = true) (hZ : va_Z C n d v (kOld D) s s.heap) (hS : va_S A s.heap H locs) (hB : ∀ q, A q → kBase D ≤ q) (hown : s.vm.findClass own = some m.cls) (hlink : (Cond.fieldLink own index ref n d) ∈ lw_all) (hsame : ∀ x, s.fieldFound? C n d = some x → s.fieldFound? ref n d = some x) (dd : decode cc pc = .ok (.getstatic index, 3)) (kk : W p l e R s m args below meth c H locs cells slots Q (F0 m (pc + 3) ls (v :: rest))) : W p l e R s m args below meth c H locs cells slots Q (F0 m pc ls rest) := va_gets hx hb (hZ.narrow hB) hS hown (hts _ hlink) hsame dd kk
theorem kx_getsN (hx : p.tables.exec = Jvm.exec) (hb : c.code = cc) {C n d own ref host : String} {v : Value} {index : Nat} (hZ : va_Z C n d v (kOld D) s s.heap) (hS : va_S A s.heap H locs) (hB : ∀ q, A q → kBase D ≤ q) (hown : s.vm.findClass own = some m.cls) (hlink : va_Nw (Cond.fieldLinkNest own index ref n d host) s) (hsame : ∀ x, s.fieldFound? C n d = some x → s.fieldFound? ref n d = some x) (dd : decode cc pc = .ok (.getstatic index, 3)) (kk : W p l e R s m args below meth c H locs cells slots Q (F0 m (pc + 3) ls (v :: rest))) : W p l e R s m args below meth c H locs cells slots Q (F0 m pc ls rest) := va_getsN hx hb (hZ.narrow hB) hS hown (va_Nw.use rfl hlink) hsame dd kk
theorem kx_tab (hx : p.tables.exec = Jvm.exec) (hb : c.code = cc) {t N : Nat} {g : Nat → Int} (hT : va_T .int t N (fun j => .int (kI (g j))) (kOld D) s s.heap) (hS : va_S A s.heap H locs) (hB : ∀ q, A q → kBase D ≤ q) {i : Int} (j : Nat) (hi : i = (j : Int)) (hj : j < N) (hN : N < 2147483648) (dd : decode cc pc = .ok (.iaload, 1)) (kk : W p l e R s m args below meth c H locs cells slots Q (F0 m (pc + 1) ls (.int (kI (g j)) :: rest))) : W p l e R s m args below meth c H locs cells slots Q (F0 m pc ls (.int (kI i) :: .ref t :: rest)) := by
  exact va_ti hx hb (hT.narrow hB) hS (kI_in hi hj hN) (by rw [kI_cl hi (by omega)]) dd kk
theorem lw_F {own C : String} {idx : Nat} {x y : MethodName} {b : ByteArray} {L : Nat} {r : Option FieldType} (h1 : Cond.methodLink own idx x ∈ lw_all) (h2 : Cond.selects C x y ∈ lw_all) (h3 : Cond.instanceMethod y ∈ lw_all) (h4 : Cond.initialized y.cls ∈ lw_all) (h5 : Cond.code y b L r ∈ lw_all) : GoodIn lw_all (va_wsF own idx C x y (ws_ y b L r)) := by
  refine lw_app ?_ (lw_meth h5)
  intro w hw
  simp only [List.mem_cons, List.not_mem_nil, or_false] at hw
  rcases hw with e | e | e | e
  · rw [e]; exact h1
  · rw [e]; exact h2
  · rw [e]; exact h3
  · rw [e]; exact h4
theorem kx_clone (hx : p.tables.exec = Jvm.exec) (hb : c.code = cc) {nL : Nat} (hml : c.maxLocals = nL) (hsz0 : ls.size = nL) {own : String} {index : Nat} (hts : ∀ w ∈ lw_all, w.before args s = true) (hown : s.vm.findClass own = some m.cls) (hlink : Cond.methodLink own index ⟨"[I", "clone", "()Ljava/lang/Object;"⟩ ∈ lw_all) (hsame : Cond.sameMethod "[I" "java/lang/Object" "clone" "()Ljava/lang/Object;" ∈ lw_all) (hnat : Cond.native ⟨"java/lang/Object", "clone", "()Ljava/lang/Object;"⟩ ∈ lw_all) (hinst : Cond.instanceMethod ⟨"java/lang/Object", "clone", "()Ljava/lang/Object;"⟩ ∈ lw_all) (hsel : Cond.selects "[I" ⟨"[I", "clone", "()Ljava/lang/Object;"⟩ ⟨"java/lang/Object", "clone", "()Ljava/lang/Object;"⟩ ∈ lw_all) (hcl : va_Nw (.castable "[I" "java/lang/Cloneable") s)
    (hK : kK D s) {a n : Nat} {g : Nat → Int} (hA : kAi D H a n g) {H0 : Heap} (hS : va_S A H0 H locs) (hfr : 1 ≤ R.frames) (hlo : (rest.map fun v => v.category).sum + 14 ≤ R.locals) (hcells : cells + 1 ≤ R.cells) (hslots : slots + n ≤ R.slots) (dd : decode cc pc = .ok (.invokevirtual index, 3))
    (kk : ∀ (q : Nat) (H1 : Heap), q = H.size → H1.size = H.size + 1 → kAi D H1 q n g → kEx H H1 → va_S A H0 H1 locs → W p l e R s m args below meth c H1 locs (cells + 1) (slots + n) Q (F0 m (pc + 3) ls (.ref q :: rest))) : W p l e R s m args below meth c H locs cells slots Q (F0 m pc ls (.ref a :: rest)) := by
  have hnm := va_nm_int (hK.va.2 0 _ rfl).2
  have hcell : H[a]? = some (arrV (D.2.1 0) n (fun j => .int (kI (g j)))) := hA
  obtain ⟨c0, t0, f1, f2, f3⟩ := Cond.castable_spec (va_Nw.use (A := args) rfl hcl)
  cases hnm.symm.trans f1
  intro T hT X
  obtain ⟨-, kA9, hkA, comp, hkind⟩ := State.isArrayOf_alike X.warmed.alike ((hK.va.2 0 _ rfl).1 0 (fun _ => .null))
  obtain ⟨-, kS9, hkS, compS, hkindS⟩ := (hK.va.2 0 _ rfl).1 0 (fun _ => .null)
  obtain ⟨vm9, X9, st⟩ := X.cloneArray hx hown (hts _ hlink) (hts _ hsame) (hts _ hnat) (hts _ hinst) (hts _ hsel) (a := a) (cell := arrV (D.2.1 0) n (fun j => .int (kI (g j)))) (by rw [hT]; exact hcell) (fun k h => by cases h) (fun h => by cases h) hnm f2 f3
    (fun i v hv => by
      have hk9 : T.vm.classes[(arrV (D.2.1 0) n (fun j => .int (kI (g j)))).cls]? = some kA9 := hkA
      have hfit : fits .int v = true := va_fit (fun _ _ => rfl) i v hv
      simpa [State.fitsSlot, State.slotType?, hk9, hkind] using hfit)
    (g := F0 m pc ls (.ref a :: rest)) rfl (by rw [hml]; exact hsz0) rfl (by rw [hb]; exact dd) hfr (by show 2 * 0 + _ + 14 ≤ _; omega) hcells (by rw [arrV_size]; exact hslots) (hloader := Vm.clonesLoader_of_array hkS hkindS)
  rw [arrV_size] at X9
  generalize hH1 : H.push (arrV (D.2.1 0) n (fun j => .int (kI (g j)))) = H1
  have z1 : H1.size = H.size + 1 := by rw [← hH1, Array.size_push]
  have e1 : H1[H.size]? = some (arrV (D.2.1 0) n (fun j => .int (kI (g j)))) := by rw [← hH1, Array.getElem?_push_size]
  have o1 : ∀ q : Nat, q < H.size → H1[q]? = H[q]? := fun q hq => by rw [← hH1, Array.getElem?_push, if_neg (Nat.ne_of_lt hq)]
  obtain ⟨t, b1, b2⟩ := kk H.size H1 rfl z1 e1 ⟨by omega, o1⟩ ⟨Nat.le_trans hS.1 (by omega), fun y h1 h2 => (o1 y (Nat.lt_of_lt_of_le h1 hS.1)).trans (hS.2.1 y h1 h2), hS.2.2⟩ ((T.setVm vm9).pushCell (arrV (D.2.1 0) n (fun j => .int (kI (g j))))) (by rw [← hH1, ← hT]; rfl) X9
  refine ⟨t, st t ?_, b2⟩
  rw [hT]
  exact b1
theorem kx_castS (hx : p.tables.exec = Jvm.exec) (hb : c.code = cc) {own C : String} {T : u_T} {N ci index a : Nat} {fs : List Value} (hts : ∀ w ∈ lw_all, w.before args s = true) (hown : s.vm.findClass own = some m.cls) (hlink : Cond.classLink own index C ∈ lw_all) (hK : kK D s) (hO : kO D H a ci fs) (hc : vwCl[ci]? = some (C, T, N)) (dd : decode cc pc = .ok (.checkcast index, 3)) (k : W p l e R s m args below meth c H locs cells slots Q (F0 m (pc + 3) ls (.ref a :: rest))) : W p l e R s m args below meth c H locs cells slots Q (F0 m pc ls (.ref a :: rest)) := va_castS hx hb hown (hts _ hlink) (hK.at hc) (kx_rc hK hO hc) dd k
theorem kx_castY (hx : p.tables.exec = Jvm.exec) (hb : c.code = cc) {own C nm : String} {T : u_T} {N ci index a : Nat} {fs : List Value} (hts : ∀ w ∈ lw_all, w.before args s = true) (hown : s.vm.findClass own = some m.cls) (hlink : Cond.classLink own index nm ∈ lw_all) (hK : kK D s) (hO : kO D H a ci fs) (hc : vwCl[ci]? = some (C, T, N)) (hcast : va_Nw (.castable C nm) s) (dd : decode cc pc = .ok (.checkcast index, 3)) (k : W p l e R s m args below meth c H locs cells slots Q (F0 m (pc + 3) ls (.ref a :: rest))) : W p l e R s m args below meth c H locs cells slots Q (F0 m pc ls (.ref a :: rest)) := va_castY hx hb hown (hts _ hlink) hcast (kx_rc hK hO hc) dd k
theorem kx_castAi (hx : p.tables.exec = Jvm.exec) (hb : c.code = cc) {own : String} {index a n : Nat} {g : Nat → Int} (hts : ∀ w ∈ lw_all, w.before args s = true) (hown : s.vm.findClass own = some m.cls) (hlink : Cond.classLink own index "[I" ∈ lw_all) (hK : kK D s) (hA : kAi D H a n g) (dd : decode cc pc = .ok (.checkcast index, 3)) (k : W p l e R s m args below meth c H locs cells slots Q (F0 m (pc + 3) ls (.ref a :: rest))) : W p l e R s m args below meth c H locs cells slots Q (F0 m pc ls (.ref a :: rest)) := va_castA hx hb hown (hts _ hlink) (kP1 hA) 0 rfl (va_nm_int (hK.va.2 0 _ rfl).2) dd k
theorem kx_instS (hx : p.tables.exec = Jvm.exec) (hb : c.code = cc) {own C : String} {T : u_T} {N ci index a : Nat} {fs : List Value} (hts : ∀ w ∈ lw_all, w.before args s = true) (hown : s.vm.findClass own = some m.cls) (hlink : Cond.classLink own index C ∈ lw_all) (hK : kK D s) (hO : kO D H a ci fs) (hc : vwCl[ci]? = some (C, T, N)) (dd : decode cc pc = .ok (.instanceof index, 3)) (k : W p l e R s m args below meth c H locs cells slots Q (F0 m (pc + 3) ls (.int (kI (kb true)) :: rest))) : W p l e R s m args below meth c H locs cells slots Q (F0 m pc ls (.ref a :: rest)) := va_instS hx hb hown (hts _ hlink) (hK.at hc) (kx_rc hK hO hc) dd k
theorem kx_instNo (hx : p.tables.exec = Jvm.exec) (hb : c.code = cc) {own C nm : String} {T : u_T} {N ci index a : Nat} {fs : List Value} (hts : ∀ w ∈ lw_all, w.before args s = true) (hown : s.vm.findClass own = some m.cls) (hlink : Cond.classLink own index nm ∈ lw_all) (hK : kK D s) (hO : kO D H a ci fs) (hc : vwCl[ci]? = some (C, T, N)) (hn : va_Nc C nm s) (dd : decode cc pc = .ok (.instanceof index, 3)) (k : W p l e R s m args below meth c H locs cells slots Q (F0 m (pc + 3) ls (.int (kI (kb false)) :: rest))) : W p l e R s m args below meth c H locs cells slots Q (F0 m pc ls (.ref a :: rest)) := va_instNo hx hb hown (hts _ hlink) hn (kx_rc hK hO hc) dd k
/-- classes' numbers differ as their names do -/
theorem kK.dif (hK : kK D s) {ci cj : Nat} {C E : String} {T1 T2 : u_T} {N1 N2 : Nat} (h1 : vwCl[ci]? = some (C, T1, N1)) (h2 : vwCl[cj]? = some (E, T2, N2)) (hne : C ≠ E) : D.1.1 ci ≠ D.1.1 cj := by
  intro e9
  have a1 := (hK.at h1).1
  have a2 := (hK.at h2).1
  rw [e9] at a1
  obtain ⟨k1, b1, b2⟩ := Vm.findClass_spec a1
  obtain ⟨k2, b3, b4⟩ := Vm.findClass_spec a2
  cases b1.symm.trans b3
  exact hne (b2.symm.trans b4)
end KX3
/-! MATH 16 -/
set_option maxHeartbeats 4000000 in
set_option maxRecDepth 100000 in
theorem m_X1_isSlanting (l : Launch) (D : kG) (H : Heap) (d : Int) (hd : 0 ≤ d ∧ d ≤ 7) : Met l yX1_isSlanting (ws_ yX1_isSlanting cX1_isSlanting 1 (some .boolean)) ({ frames := 0, cells := 0, slots := 0, locals := 0 } : Room) (kPre D H [.int (kI (d))]) (kQb (fun (r : Bool) H' => H' = H ∧ r = decide (d % 2 = 1)) kNO) (0) (0) (kNO) := by
  refine Met.ofW (cc := cX1_isSlanting) (maxL := 1) (ret := (some .boolean)) (by decide) rfl ?_
  intro p e s m args below meth c s₁ B hml hv
  obtain ⟨rfl, hH, hK⟩ := hv
  subst hH
  have hx := B.exec
  have hb := B.bytes
  have hr := B.returns
  have hts := atoms_spec (ws := ws_ yX1_isSlanting cX1_isSlanting 1 (some .boolean)) B.pre
  have hts : ∀ w ∈ lw_all, w.before _ s = true := fun w h => hts w (List.mem_cons_of_mem _ h)
  have hown : s.vm.findClass RX1 = some m.cls := findClass_of_methodNamed B.named
  have hlk := B.notSynchronized
  have hS : va_S kNO s.heap s.heap [] := va_S.rf
  have hB : ∀ q, kNO q → kBase D ≤ q := fun _ h => h.elim
  have hl := lv_entry ([.int (kI (d))]) (n := 1) (Nat.le_of_ble_eq_true rfl)
  rw [lg_entry_eq]
  generalize (lg_sl ([.int (kI (d))]) ++ List.replicate (1 - (lg_sl ([.int (kI (d))])).length) Slot.unset).toArray = ls at hl ⊢
  have hl : lv_has ls 1 [(0, .int (kI (d)))] := hl
  refine lv_iload_n hx hb dX1_isSlanting_0 rfl (lv_at hl 0 rfl) ?_
  refine kx_iconst hx hb dX1_isSlanting_1 ?_
  refine kx_irem (x := d) (y := 2) hx hb (by omega) (by omega) (by omega) (by omega) dX1_isSlanting_2 ?_
  refine kx_iconst hx hb dX1_isSlanting_3 ?_
  refine kx_icmp_ne (x := (d % 2)) (y := 1) (tgt := 11) hx hb dX1_isSlanting_4 (by decide) (by omega) (by omega) (by omega) (by omega) (fun c_4_1 => ?_) (fun c_4_1 => ?_)
  · -- taken at 4
    refine kx_iconst hx hb dX1_isSlanting_11 ?_
    exact kx_zret (z := false) hx hb hr hlk (⟨rfl, by first | rfl | exact (decide_eq_true (by omega)).symm | exact (decide_eq_false (by omega)).symm | grind⟩) hS dX1_isSlanting_12
  · -- not taken at 4
    refine kx_iconst hx hb dX1_isSlanting_7 ?_
    refine lv_goto (tgt := 12) hx hb dX1_isSlanting_8 (by decide) ?_
    exact kx_zret (z := true) hx hb hr hlk (⟨rfl, by first | rfl | exact (decide_eq_true (by omega)).symm | exact (decide_eq_false (by omega)).symm | grind⟩) hS dX1_isSlanting_12

set_option maxHeartbeats 4000000 in
set_option maxRecDepth 100000 in
theorem m_X1_row (l : Launch) (D : kG) (H : Heap) (pt : Int) (hpt : 0 ≤ pt ∧ pt ≤ 383) : Met l yX1_row (ws_ yX1_row cX1_row 1 (some .int)) ({ frames := 0, cells := 0, slots := 0, locals := 0 } : Room) (kPre D H [.int (kI (pt))]) (kQi (fun (r : Int) H' => H' = H ∧ r = pt / 24) kNO) (0) (0) (kNO) := by
  refine Met.ofW (cc := cX1_row) (maxL := 1) (ret := (some .int)) (by decide) rfl ?_
  intro p e s m args below meth c s₁ B hml hv
  obtain ⟨rfl, hH, hK⟩ := hv
  subst hH
  have hx := B.exec
  have hb := B.bytes
  have hr := B.returns
  have hts := atoms_spec (ws := ws_ yX1_row cX1_row 1 (some .int)) B.pre
  have hts : ∀ w ∈ lw_all, w.before _ s = true := fun w h => hts w (List.mem_cons_of_mem _ h)
  have hown : s.vm.findClass RX1 = some m.cls := findClass_of_methodNamed B.named
  have hlk := B.notSynchronized
  have hS : va_S kNO s.heap s.heap [] := va_S.rf
  have hB : ∀ q, kNO q → kBase D ≤ q := fun _ h => h.elim
  have hl := lv_entry ([.int (kI (pt))]) (n := 1) (Nat.le_of_ble_eq_true rfl)
  rw [lg_entry_eq]
  generalize (lg_sl ([.int (kI (pt))]) ++ List.replicate (1 - (lg_sl ([.int (kI (pt))])).length) Slot.unset).toArray = ls at hl ⊢
  have hl : lv_has ls 1 [(0, .int (kI (pt)))] := hl
  refine lv_iload_n hx hb dX1_row_0 rfl (lv_at hl 0 rfl) ?_
  refine kx_bipush hx hb (by decide) dX1_row_1 ?_
  refine kx_idiv (x := pt) (y := 24) hx hb (by omega) (by omega) (by omega) (by omega) dX1_row_3 ?_
  exact kx_iret (z := (pt / 24)) hx hb hr hlk (⟨rfl, by rfl⟩) hS dX1_row_4

set_option maxHeartbeats 4000000 in
set_option maxRecDepth 100000 in
theorem m_X1_column (l : Launch) (D : kG) (H : Heap) (pt : Int) (hpt : 0 ≤ pt ∧ pt ≤ 383) : Met l yX1_column (ws_ yX1_column cX1_column 1 (some .int)) ({ frames := 0, cells := 0, slots := 0, locals := 0 } : Room) (kPre D H [.int (kI (pt))]) (kQi (fun (r : Int) H' => H' = H ∧ r = pt % 24) kNO) (0) (0) (kNO) := by
  refine Met.ofW (cc := cX1_column) (maxL := 1) (ret := (some .int)) (by decide) rfl ?_
  intro p e s m args below meth c s₁ B hml hv
  obtain ⟨rfl, hH, hK⟩ := hv
  subst hH
  have hx := B.exec
  have hb := B.bytes
  have hr := B.returns
  have hts := atoms_spec (ws := ws_ yX1_column cX1_column 1 (some .int)) B.pre
  have hts : ∀ w ∈ lw_all, w.before _ s = true := fun w h => hts w (List.mem_cons_of_mem _ h)
  have hown : s.vm.findClass RX1 = some m.cls := findClass_of_methodNamed B.named
  have hlk := B.notSynchronized
  have hS : va_S kNO s.heap s.heap [] := va_S.rf
  have hB : ∀ q, kNO q → kBase D ≤ q := fun _ h => h.elim
  have hl := lv_entry ([.int (kI (pt))]) (n := 1) (Nat.le_of_ble_eq_true rfl)
  rw [lg_entry_eq]
  generalize (lg_sl ([.int (kI (pt))]) ++ List.replicate (1 - (lg_sl ([.int (kI (pt))])).length) Slot.unset).toArray = ls at hl ⊢
  have hl : lv_has ls 1 [(0, .int (kI (pt)))] := hl
  refine lv_iload_n hx hb dX1_column_0 rfl (lv_at hl 0 rfl) ?_
  refine kx_bipush hx hb (by decide) dX1_column_1 ?_
  refine kx_irem (x := pt) (y := 24) hx hb (by omega) (by omega) (by omega) (by omega) dX1_column_3 ?_
  exact kx_iret (z := (pt % 24)) hx hb hr hlk (⟨rfl, by rfl⟩) hS dX1_column_4

set_option maxHeartbeats 4000000 in
set_option maxRecDepth 100000 in
theorem m_X1_size (l : Launch) (D : kG) (H : Heap) (z : Int) (hz : -1000 ≤ z ∧ z ≤ 1000) : Met l yX1_size (ws_ yX1_size cX1_size 1 (some .int)) ({ frames := 0, cells := 0, slots := 0, locals := 0 } : Room) (kPre D H [.int (kI (z))]) (kQi (fun (r : Int) H' => H' = H ∧ r = (if z < 0 then -z else z)) kNO) (0) (0) (kNO) := by
  refine Met.ofW (cc := cX1_size) (maxL := 1) (ret := (some .int)) (by decide) rfl ?_
  intro p e s m args below meth c s₁ B hml hv
  obtain ⟨rfl, hH, hK⟩ := hv
  subst hH
  have hx := B.exec
  have hb := B.bytes
  have hr := B.returns
  have hts := atoms_spec (ws := ws_ yX1_size cX1_size 1 (some .int)) B.pre
  have hts : ∀ w ∈ lw_all, w.before _ s = true := fun w h => hts w (List.mem_cons_of_mem _ h)
  have hown : s.vm.findClass RX1 = some m.cls := findClass_of_methodNamed B.named
  have hlk := B.notSynchronized
  have hS : va_S kNO s.heap s.heap [] := va_S.rf
  have hB : ∀ q, kNO q → kBase D ≤ q := fun _ h => h.elim
  have hl := lv_entry ([.int (kI (z))]) (n := 1) (Nat.le_of_ble_eq_true rfl)
  rw [lg_entry_eq]
  generalize (lg_sl ([.int (kI (z))]) ++ List.replicate (1 - (lg_sl ([.int (kI (z))])).length) Slot.unset).toArray = ls at hl ⊢
  have hl : lv_has ls 1 [(0, .int (kI (z)))] := hl
  refine lv_iload_n hx hb dX1_size_0 rfl (lv_at hl 0 rfl) ?_
  refine kx_if_ge (x := z) (tgt := 9) hx hb dX1_size_1 (by decide) (by omega) (by omega) (fun c_1_1 => ?_) (fun c_1_1 => ?_)
  · -- taken at 1
    refine lv_iload_n hx hb dX1_size_9 rfl (lv_at hl 0 rfl) ?_
    exact kx_iret (z := z) hx hb hr hlk (⟨rfl, by first | rw [if_pos (by assumption)] | rw [if_neg (by omega)]⟩) hS dX1_size_10
  · -- not taken at 1
    refine lv_iload_n hx hb dX1_size_4 rfl (lv_at hl 0 rfl) ?_
    refine kx_ineg hx hb dX1_size_5 ?_
    refine lv_goto (tgt := 10) hx hb dX1_size_6 (by decide) ?_
    exact kx_iret (z := (-z)) hx hb hr hlk (⟨rfl, by first | rw [if_pos (by assumption)] | rw [if_neg (by omega)]⟩) hS dX1_size_10

set_option maxHeartbeats 4000000 in
set_option maxRecDepth 100000 in
theorem m_X1_next (l : Launch) (D : kG) (H : Heap) (pt : Int) (d : Int) (hpt : 0 ≤ pt ∧ pt ≤ 383) (hd : 0 ≤ d ∧ d ≤ 7) : Met l yX1_next (ws_ yX1_next cX1_next 4 (some .int)) ({ frames := 1, cells := 0, slots := 0, locals := 20 } : Room) (kPre D H [.int (kI (pt)), .int (kI (d))]) (kQi (fun (r : Int) H' => H' = H ∧ r = nx pt d) kNO) (0) (0) (kNO) := by
  refine Met.ofW (cc := cX1_next) (maxL := 4) (ret := (some .int)) (by decide) rfl ?_
  intro p e s m args below meth c s₁ B hml hv
  obtain ⟨rfl, hH, hK⟩ := hv
  subst hH
  have hx := B.exec
  have hb := B.bytes
  have hr := B.returns
  have hts := atoms_spec (ws := ws_ yX1_next cX1_next 4 (some .int)) B.pre
  have hts : ∀ w ∈ lw_all, w.before _ s = true := fun w h => hts w (List.mem_cons_of_mem _ h)
  have hown : s.vm.findClass RX1 = some m.cls := findClass_of_methodNamed B.named
  have hlk := B.notSynchronized
  have hS : va_S kNO s.heap s.heap [] := va_S.rf
  have hB : ∀ q, kNO q → kBase D ≤ q := fun _ h => h.elim
  have hl := lv_entry ([.int (kI (pt)), .int (kI (d))]) (n := 4) (Nat.le_of_ble_eq_true rfl)
  rw [lg_entry_eq]
  generalize (lg_sl ([.int (kI (pt)), .int (kI (d))]) ++ List.replicate (4 - (lg_sl ([.int (kI (pt)), .int (kI (d))])).length) Slot.unset).toArray = ls at hl ⊢
  have hl : lv_has ls 4 [(0, .int (kI (pt))), (1, .int (kI (d)))] := hl
  have hac := ac_rng d
  have hdn := dn_rng d
  refine lv_iload_n hx hb dX1_next_0 rfl (lv_at hl 0 rfl) ?_
  refine kx_ci0 (va_runS (As := [.int (kI (pt))]) (rest := []) ⟨hx, hb, hml, hown, hts⟩ (m_X1_column l D s.heap pt  (by first | assumption | omega)) (va_cwS 1 hts (lw_S q1169 q1153 q79 q1154) rfl rfl rfl (by decide +kernel) ⟨Nat.le_of_ble_eq_true rfl, Nat.le_of_ble_eq_true rfl⟩) (kx_ps hK hS hB) rfl rfl hl.1 rfl (lv_room (Nat.le_of_ble_eq_true rfl)) dX1_next_1 ⟨by first | exact Nat.le_of_ble_eq_true rfl | omega | (show _ ≤ _; omega) | (dsimp only [headSpec]; omega), by first | exact Nat.le_of_ble_eq_true rfl | omega | (show _ ≤ _; omega) | (dsimp only [headSpec]; omega)⟩) hS (fun z_4 locs_1 hz_3 hS_2 => ?_)
  subst z_4
  refine kx_gets (v := .ref (D.2.2.2 0)) hx hb hts hK.sA hS_2 hB hown q1689 (fun _ h9 => h9) dX1_next_4 ?_
  refine lv_iload_n hx hb dX1_next_7 rfl (lv_at hl 1 rfl) ?_
  refine kx_tab hx hb hK.tA hS_2 hB d.toNat (by omega) (by omega) (by decide) dX1_next_8 ?_
  refine kx_iadd hx hb dX1_next_9 ?_
  refine lv_istore_n (lv' := [(2, .int (kI ((pt % 24 + (ac d))))), (0, .int (kI (pt))), (1, .int (kI (d)))]) hx hb dX1_next_10 rfl hl (by decide) rfl (fun ls hl => ?_)
  refine lv_iload_n hx hb dX1_next_11 rfl (lv_at hl 1 rfl) ?_
  refine kx_ci0 (va_runS (As := [.int (kI (pt))]) (rest := []) ⟨hx, hb, hml, hown, hts⟩ (m_X1_row l D s.heap pt  (by first | assumption | omega)) (va_cwS 1 hts (lw_S q1171 q1143 q79 q1144) rfl rfl rfl (by decide +kernel) ⟨Nat.le_of_ble_eq_true rfl, Nat.le_of_ble_eq_true rfl⟩) (kx_ps hK hS_2 hB) rfl rfl hl.1 rfl (lv_room (Nat.le_of_ble_eq_true rfl)) dX1_next_12 ⟨by first | exact Nat.le_of_ble_eq_true rfl | omega | (show _ ≤ _; omega) | (dsimp only [headSpec]; omega), by first | exact Nat.le_of_ble_eq_true rfl | omega | (show _ ≤ _; omega) | (dsimp only [headSpec]; omega)⟩) hS_2 (fun z_8 locs_5 hz_7 hS_6 => ?_)
  subst z_8
  refine kx_gets (v := .ref (D.2.2.2 1)) hx hb hts hK.sD hS_6 hB hown q1691 (fun _ h9 => h9) dX1_next_15 ?_
  refine lv_iload_n hx hb dX1_next_18 rfl (lv_at hl 2 rfl) ?_
  refine kx_tab hx hb hK.tD hS_6 hB d.toNat (by omega) (by omega) (by decide) dX1_next_19 ?_
  refine kx_iadd hx hb dX1_next_20 ?_
  refine lv_istore_n (lv' := [(3, .int (kI ((pt / 24 + (dn d))))), (2, .int (kI ((pt % 24 + (ac d))))), (0, .int (kI (pt))), (1, .int (kI (d)))]) hx hb dX1_next_21 rfl hl (by decide) rfl (fun ls hl => ?_)
  refine lv_iload_n hx hb dX1_next_22 rfl (lv_at hl 1 rfl) ?_
  refine kx_if_lt (x := (pt % 24 + (ac d))) (tgt := 51) hx hb dX1_next_23 (by decide) (by omega) (by omega) (fun c_23_9 => ?_) (fun c_23_9 => ?_)
  · -- taken at 23
    refine kx_iconst hx hb dX1_next_51 ?_
    exact kx_iret (z := (-1)) hx hb hr hlk (⟨rfl, by unfold nx; first | (rw [if_pos ⟨by omega, by omega, by omega, by omega⟩]; done) | (rw [if_neg (by omega)]; done)⟩) hS_6 dX1_next_52
  · -- not taken at 23
    refine lv_iload_n hx hb dX1_next_26 rfl (lv_at hl 1 rfl) ?_
    refine kx_bipush hx hb (by decide) dX1_next_27 ?_
    refine kx_icmp_ge (x := (pt % 24 + (ac d))) (y := 24) (tgt := 51) hx hb dX1_next_29 (by decide) (by omega) (by omega) (by omega) (by omega) (fun c_29_10 => ?_) (fun c_29_10 => ?_)
    · -- taken at 29
      refine kx_iconst hx hb dX1_next_51 ?_
      exact kx_iret (z := (-1)) hx hb hr hlk (⟨rfl, by unfold nx; first | (rw [if_pos ⟨by omega, by omega, by omega, by omega⟩]; done) | (rw [if_neg (by omega)]; done)⟩) hS_6 dX1_next_52
    · -- not taken at 29
      refine lv_iload_n hx hb dX1_next_32 rfl (lv_at hl 0 rfl) ?_
      refine kx_if_lt (x := (pt / 24 + (dn d))) (tgt := 51) hx hb dX1_next_33 (by decide) (by omega) (by omega) (fun c_33_11 => ?_) (fun c_33_11 => ?_)
      · -- taken at 33
        refine kx_iconst hx hb dX1_next_51 ?_
        exact kx_iret (z := (-1)) hx hb hr hlk (⟨rfl, by unfold nx; first | (rw [if_pos ⟨by omega, by omega, by omega, by omega⟩]; done) | (rw [if_neg (by omega)]; done)⟩) hS_6 dX1_next_52
      · -- not taken at 33
        refine lv_iload_n hx hb dX1_next_36 rfl (lv_at hl 0 rfl) ?_
        refine kx_bipush hx hb (by decide) dX1_next_37 ?_
        refine kx_icmp_ge (x := (pt / 24 + (dn d))) (y := 16) (tgt := 51) hx hb dX1_next_39 (by decide) (by omega) (by omega) (by omega) (by omega) (fun c_39_12 => ?_) (fun c_39_12 => ?_)
        · -- taken at 39
          refine kx_iconst hx hb dX1_next_51 ?_
          exact kx_iret (z := (-1)) hx hb hr hlk (⟨rfl, by unfold nx; first | (rw [if_pos ⟨by omega, by omega, by omega, by omega⟩]; done) | (rw [if_neg (by omega)]; done)⟩) hS_6 dX1_next_52
        · -- not taken at 39
          refine kx_bipush hx hb (by decide) dX1_next_42 ?_
          refine lv_iload_n hx hb dX1_next_44 rfl (lv_at hl 0 rfl) ?_
          refine kx_imul hx hb dX1_next_45 ?_
          refine lv_iload_n hx hb dX1_next_46 rfl (lv_at hl 1 rfl) ?_
          refine kx_iadd hx hb dX1_next_47 ?_
          refine lv_goto (tgt := 52) hx hb dX1_next_48 (by decide) ?_
          exact kx_iret (z := ((24 * (pt / 24 + (dn d))) + (pt % 24 + (ac d)))) hx hb hr hlk (⟨rfl, by unfold nx; first | (rw [if_pos ⟨by omega, by omega, by omega, by omega⟩]; done) | (rw [if_neg (by omega)]; done)⟩) hS_6 dX1_next_52

set_option maxHeartbeats 4000000 in
set_option maxRecDepth 100000 in
theorem m_X1_far (l : Launch) (D : kG) (H : Heap) (x : Int) (y : Int) (hpt : 0 ≤ x ∧ x ≤ 383) (hd : 0 ≤ y ∧ y ≤ 383) : Met l yX1_far (ws_ yX1_far cX1_far 4 (some .int)) ({ frames := 1, cells := 0, slots := 0, locals := 20 } : Room) (kPre D H [.int (kI (x)), .int (kI (y))]) (kQi (fun (r : Int) H' => H' = H ∧ r = far x y) kNO) (0) (0) (kNO) := by
  refine Met.ofW (cc := cX1_far) (maxL := 4) (ret := (some .int)) (by decide) rfl ?_
  intro p e s m args below meth c s₁ B hml hv
  obtain ⟨rfl, hH, hK⟩ := hv
  subst hH
  have hx := B.exec
  have hb := B.bytes
  have hr := B.returns
  have hts := atoms_spec (ws := ws_ yX1_far cX1_far 4 (some .int)) B.pre
  have hts : ∀ w ∈ lw_all, w.before _ s = true := fun w h => hts w (List.mem_cons_of_mem _ h)
  have hown : s.vm.findClass RX1 = some m.cls := findClass_of_methodNamed B.named
  have hlk := B.notSynchronized
  have hS : va_S kNO s.heap s.heap [] := va_S.rf
  have hB : ∀ q, kNO q → kBase D ≤ q := fun _ h => h.elim
  have hl := lv_entry ([.int (kI (x)), .int (kI (y))]) (n := 4) (Nat.le_of_ble_eq_true rfl)
  rw [lg_entry_eq]
  generalize (lg_sl ([.int (kI (x)), .int (kI (y))]) ++ List.replicate (4 - (lg_sl ([.int (kI (x)), .int (kI (y))])).length) Slot.unset).toArray = ls at hl ⊢
  have hl : lv_has ls 4 [(0, .int (kI (x))), (1, .int (kI (y)))] := hl
  refine lv_iload_n hx hb dX1_far_0 rfl (lv_at hl 0 rfl) ?_
  refine kx_ci0 (va_runS (As := [.int (kI (x))]) (rest := []) ⟨hx, hb, hml, hown, hts⟩ (m_X1_column l D s.heap x  (by first | assumption | omega)) (va_cwS 1 hts (lw_S q1169 q1153 q79 q1154) rfl rfl rfl (by decide +kernel) ⟨Nat.le_of_ble_eq_true rfl, Nat.le_of_ble_eq_true rfl⟩) (kx_ps hK hS hB) rfl rfl hl.1 rfl (lv_room (Nat.le_of_ble_eq_true rfl)) dX1_far_1 ⟨by first | exact Nat.le_of_ble_eq_true rfl | omega | (show _ ≤ _; omega) | (dsimp only [headSpec]; omega), by first | exact Nat.le_of_ble_eq_true rfl | omega | (show _ ≤ _; omega) | (dsimp only [headSpec]; omega)⟩) hS (fun z_4 locs_1 hz_3 hS_2 => ?_)
  subst z_4
  refine lv_iload_n hx hb dX1_far_4 rfl (lv_at hl 1 rfl) ?_
  refine kx_ci0 (va_runS (As := [.int (kI (y))]) (rest := [.int (kI (x % 24))]) ⟨hx, hb, hml, hown, hts⟩ (m_X1_column l D s.heap y  (by first | assumption | omega)) (va_cwS 1 hts (lw_S q1169 q1153 q79 q1154) rfl rfl rfl (by decide +kernel) ⟨Nat.le_of_ble_eq_true rfl, Nat.le_of_ble_eq_true rfl⟩) (kx_ps hK hS_2 hB) rfl rfl hl.1 rfl (lv_room (Nat.le_of_ble_eq_true rfl)) dX1_far_5 ⟨by first | exact Nat.le_of_ble_eq_true rfl | omega | (show _ ≤ _; omega) | (dsimp only [headSpec]; omega), by first | exact Nat.le_of_ble_eq_true rfl | omega | (show _ ≤ _; omega) | (dsimp only [headSpec]; omega)⟩) hS_2 (fun z_8 locs_5 hz_7 hS_6 => ?_)
  subst z_8
  refine kx_isub hx hb dX1_far_8 ?_
  refine kx_ci0 (va_runS (As := [.int (kI ((x % 24 - y % 24)))]) (rest := []) ⟨hx, hb, hml, hown, hts⟩ (m_X1_size l D s.heap ((x % 24 - y % 24))  (by first | assumption | omega)) (va_cwS 1 hts (lw_S q1170 q1146 q79 q1147) rfl rfl rfl (by decide +kernel) ⟨Nat.le_of_ble_eq_true rfl, Nat.le_of_ble_eq_true rfl⟩) (kx_ps hK hS_6 hB) rfl rfl hl.1 rfl (lv_room (Nat.le_of_ble_eq_true rfl)) dX1_far_9 ⟨by first | exact Nat.le_of_ble_eq_true rfl | omega | (show _ ≤ _; omega) | (dsimp only [headSpec]; omega), by first | exact Nat.le_of_ble_eq_true rfl | omega | (show _ ≤ _; omega) | (dsimp only [headSpec]; omega)⟩) hS_6 (fun z_12 locs_9 hz_11 hS_10 => ?_)
  subst z_12
  refine lv_istore_n (lv' := [(2, .int (kI ((if (x % 24 - y % 24) < 0 then -(x % 24 - y % 24) else (x % 24 - y % 24))))), (0, .int (kI (x))), (1, .int (kI (y)))]) hx hb dX1_far_12 rfl hl (by decide) rfl (fun ls hl => ?_)
  refine lv_iload_n hx hb dX1_far_13 rfl (lv_at hl 1 rfl) ?_
  refine kx_ci0 (va_runS (As := [.int (kI (x))]) (rest := []) ⟨hx, hb, hml, hown, hts⟩ (m_X1_row l D s.heap x  (by first | assumption | omega)) (va_cwS 1 hts (lw_S q1171 q1143 q79 q1144) rfl rfl rfl (by decide +kernel) ⟨Nat.le_of_ble_eq_true rfl, Nat.le_of_ble_eq_true rfl⟩) (kx_ps hK hS_10 hB) rfl rfl hl.1 rfl (lv_room (Nat.le_of_ble_eq_true rfl)) dX1_far_14 ⟨by first | exact Nat.le_of_ble_eq_true rfl | omega | (show _ ≤ _; omega) | (dsimp only [headSpec]; omega), by first | exact Nat.le_of_ble_eq_true rfl | omega | (show _ ≤ _; omega) | (dsimp only [headSpec]; omega)⟩) hS_10 (fun z_16 locs_13 hz_15 hS_14 => ?_)
  subst z_16
  refine lv_iload_n hx hb dX1_far_17 rfl (lv_at hl 2 rfl) ?_
  refine kx_ci0 (va_runS (As := [.int (kI (y))]) (rest := [.int (kI (x / 24))]) ⟨hx, hb, hml, hown, hts⟩ (m_X1_row l D s.heap y  (by first | assumption | omega)) (va_cwS 1 hts (lw_S q1171 q1143 q79 q1144) rfl rfl rfl (by decide +kernel) ⟨Nat.le_of_ble_eq_true rfl, Nat.le_of_ble_eq_true rfl⟩) (kx_ps hK hS_14 hB) rfl rfl hl.1 rfl (lv_room (Nat.le_of_ble_eq_true rfl)) dX1_far_18 ⟨by first | exact Nat.le_of_ble_eq_true rfl | omega | (show _ ≤ _; omega) | (dsimp only [headSpec]; omega), by first | exact Nat.le_of_ble_eq_true rfl | omega | (show _ ≤ _; omega) | (dsimp only [headSpec]; omega)⟩) hS_14 (fun z_20 locs_17 hz_19 hS_18 => ?_)
  subst z_20
  refine kx_isub hx hb dX1_far_21 ?_
  refine kx_ci0 (va_runS (As := [.int (kI ((x / 24 - y / 24)))]) (rest := []) ⟨hx, hb, hml, hown, hts⟩ (m_X1_size l D s.heap ((x / 24 - y / 24))  (by first | assumption | omega)) (va_cwS 1 hts (lw_S q1170 q1146 q79 q1147) rfl rfl rfl (by decide +kernel) ⟨Nat.le_of_ble_eq_true rfl, Nat.le_of_ble_eq_true rfl⟩) (kx_ps hK hS_18 hB) rfl rfl hl.1 rfl (lv_room (Nat.le_of_ble_eq_true rfl)) dX1_far_22 ⟨by first | exact Nat.le_of_ble_eq_true rfl | omega | (show _ ≤ _; omega) | (dsimp only [headSpec]; omega), by first | exact Nat.le_of_ble_eq_true rfl | omega | (show _ ≤ _; omega) | (dsimp only [headSpec]; omega)⟩) hS_18 (fun z_24 locs_21 hz_23 hS_22 => ?_)
  subst z_24
  refine lv_istore_n (lv' := [(3, .int (kI ((if (x / 24 - y / 24) < 0 then -(x / 24 - y / 24) else (x / 24 - y / 24))))), (2, .int (kI ((if (x % 24 - y % 24) < 0 then -(x % 24 - y % 24) else (x % 24 - y % 24))))), (0, .int (kI (x))), (1, .int (kI (y)))]) hx hb dX1_far_25 rfl hl (by decide) rfl (fun ls hl => ?_)
  refine lv_iload_n hx hb dX1_far_26 rfl (lv_at hl 1 rfl) ?_
  refine lv_iload_n hx hb dX1_far_27 rfl (lv_at hl 0 rfl) ?_
  refine kx_icmp_le (x := (if (x % 24 - y % 24) < 0 then -(x % 24 - y % 24) else (x % 24 - y % 24))) (y := (if (x / 24 - y / 24) < 0 then -(x / 24 - y / 24) else (x / 24 - y / 24))) (tgt := 35) hx hb dX1_far_28 (by decide) (by omega) (by omega) (by omega) (by omega) (fun c_28_25 => ?_) (fun c_28_25 => ?_)
  · -- taken at 28
    refine lv_iload_n hx hb dX1_far_35 rfl (lv_at hl 0 rfl) ?_
    exact kx_iret (z := (if (x / 24 - y / 24) < 0 then -(x / 24 - y / 24) else (x / 24 - y / 24))) hx hb hr hlk (⟨rfl, by unfold far apart; grind⟩) hS_22 dX1_far_36
  · -- not taken at 28
    refine lv_iload_n hx hb dX1_far_31 rfl (lv_at hl 1 rfl) ?_
    refine lv_goto (tgt := 36) hx hb dX1_far_32 (by decide) ?_
    exact kx_iret (z := (if (x % 24 - y % 24) < 0 then -(x % 24 - y % 24) else (x % 24 - y % 24))) hx hb hr hlk (⟨rfl, by unfold far apart; grind⟩) hS_22 dX1_far_36

set_option maxHeartbeats 4000000 in
set_option maxRecDepth 100000 in
theorem m_X4_turn (l : Launch) (D : kG) (H : Heap) (x : Int) (y : Int) (hx1 : 0 ≤ x ∧ x ≤ 7) (hy1 : 0 ≤ y ∧ y ≤ 7) : Met l yX4_turn (ws_ yX4_turn cX4_turn 3 (some .int)) ({ frames := 0, cells := 0, slots := 0, locals := 0 } : Room) (kPre D H [.int (kI (x)), .int (kI (y))]) (kQi (fun (r : Int) H' => H' = H ∧ r = turn x y) kNO) (0) (0) (kNO) := by
  refine Met.ofW (cc := cX4_turn) (maxL := 3) (ret := (some .int)) (by decide) rfl ?_
  intro p e s m args below meth c s₁ B hml hv
  obtain ⟨rfl, hH, hK⟩ := hv
  subst hH
  have hx := B.exec
  have hb := B.bytes
  have hr := B.returns
  have hts := atoms_spec (ws := ws_ yX4_turn cX4_turn 3 (some .int)) B.pre
  have hts : ∀ w ∈ lw_all, w.before _ s = true := fun w h => hts w (List.mem_cons_of_mem _ h)
  have hown : s.vm.findClass RX4 = some m.cls := findClass_of_methodNamed B.named
  have hlk := B.notSynchronized
  have hS : va_S kNO s.heap s.heap [] := va_S.rf
  have hB : ∀ q, kNO q → kBase D ≤ q := fun _ h => h.elim
  have hl := lv_entry ([.int (kI (x)), .int (kI (y))]) (n := 3) (Nat.le_of_ble_eq_true rfl)
  rw [lg_entry_eq]
  generalize (lg_sl ([.int (kI (x)), .int (kI (y))]) ++ List.replicate (3 - (lg_sl ([.int (kI (x)), .int (kI (y))])).length) Slot.unset).toArray = ls at hl ⊢
  have hl : lv_has ls 3 [(0, .int (kI (x))), (1, .int (kI (y)))] := hl
  refine lv_iload_n hx hb dX4_turn_0 rfl (lv_at hl 1 rfl) ?_
  refine lv_iload_n hx hb dX4_turn_1 rfl (lv_at hl 0 rfl) ?_
  refine kx_isub hx hb dX4_turn_2 ?_
  refine kx_bipush hx hb (by decide) dX4_turn_3 ?_
  refine kx_iadd hx hb dX4_turn_5 ?_
  refine kx_bipush hx hb (by decide) dX4_turn_6 ?_
  refine kx_irem (x := ((y - x) + 8)) (y := 8) hx hb (by omega) (by omega) (by omega) (by omega) dX4_turn_8 ?_
  refine lv_istore_n (lv' := [(2, .int (kI ((((y - x) + 8) % 8)))), (0, .int (kI (x))), (1, .int (kI (y)))]) hx hb dX4_turn_9 rfl hl (by decide) rfl (fun ls hl => ?_)
  refine lv_iload_n hx hb dX4_turn_10 rfl (lv_at hl 0 rfl) ?_
  refine kx_iconst hx hb dX4_turn_11 ?_
  refine kx_icmp_le (x := (((y - x) + 8) % 8)) (y := 4) (tgt := 22) hx hb dX4_turn_12 (by decide) (by omega) (by omega) (by omega) (by omega) (fun c_12_1 => ?_) (fun c_12_1 => ?_)
  · -- taken at 12
    refine lv_iload_n hx hb dX4_turn_22 rfl (lv_at hl 0 rfl) ?_
    exact kx_iret (z := (((y - x) + 8) % 8)) hx hb hr hlk (⟨rfl, by unfold turn; grind⟩) hS dX4_turn_23
  · -- not taken at 12
    refine kx_bipush hx hb (by decide) dX4_turn_15 ?_
    refine lv_iload_n hx hb dX4_turn_17 rfl (lv_at hl 0 rfl) ?_
    refine kx_isub hx hb dX4_turn_18 ?_
    refine lv_goto (tgt := 23) hx hb dX4_turn_19 (by decide) ?_
    exact kx_iret (z := (8 - (((y - x) + 8) % 8))) hx hb hr hlk (⟨rfl, by unfold turn; grind⟩) hS dX4_turn_23

