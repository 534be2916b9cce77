/-! CORE 6: the law's wrappers: longs, handlers -/
/- a starting text: vx_ofWH -/
theorem vx_ofWH {l : Launch} {y : MethodName} {ws ws' : List Cond} {rm : Room} {Pc : Array Value → State → Prop} {Qc : Array Value → State → Outcome → State → Prop} {XC : String → State → State → Prop} {mc ms : Nat} {free : Addr → Prop} {cc : ByteArray} {maxL : Nat} {ret : Option FieldType} {hh : List (Nat × Nat × Nat × Nat)}
    (hy : plainName y.cls = true) (hw : ws = Cond.codeWith y cc maxL ret hh :: ws')
    (body : ∀ p e s m args below meth c s₁, BodyLoose p l y (headSpec ws rm) cc maxL ret e s m args below meth c s₁ → c.maxLocals = maxL → Pc args s →
      W p l e (headSpec ws rm).room s m args below meth c s.heap [] 0 0 (vx_MQ below Qc XC args s mc ms free) (entryFrame m args maxL)) : vx_Met l y ws rm Pc Qc XC mc ms free := by
  refine MetFree.of_bodyS (code := cc) (maxLocals := maxL) (ret := ret) hy ?_ ?_
  · intro args s m h hn
    obtain ⟨m9, meth, c, hn9, h1, h2, h3, h4, -, h5, h6, -⟩ := Cond.codeWith_spec (atoms_spec (ws := ws) h _ (by rw [hw]; exact List.mem_cons_self))
    cases hn.symm.trans hn9
    exact ⟨meth, c, h1, h2, h3, h4, h5, h6⟩
  · intro p e s m args below meth c s₁ B hml hP _
    have hh0 : s₁.heap = s.heap := by rw [B.state]; rfl
    obtain ⟨t, a1, o, b1, b2, b3⟩ := body p e s m args below meth c s₁ B hml hP s₁ hh0 (Stand.of_body B)
    exact ⟨t, o, a1, b1, b2, b3⟩
section KX8
variable {p : Program} {l : Launch} {e : Env} {R : Room} {s : State} {m : MethodId} {args : Array Value} {below : List Frame} {meth : Method} {c : Code} {H : Heap} {locs : List Loc} {cells slots : Nat} {Q : State → Prop}
variable {cc : ByteArray} {pc : Nat} {ls : Array Slot} {rest : List Value} {D : kG} {A : Nat → Prop} {a : Nat} {H0 : Heap}
theorem kx_eql {x : Int64} (y : Int64) (h : x = y) (k : W p l e R s m args below meth c H locs cells slots Q (F0 m pc ls (.long y :: rest))) : W p l e R s m args below meth c H locs cells slots Q (F0 m pc ls (.long x :: rest)) := by subst h; exact k
theorem kI_toL {z : Int} (h1 : -2147483648 ≤ z) (h2 : z ≤ 2147483647) : (kI z).toInt64 = kL z := by
  rw [← Int64.ofInt_int32ToInt, kI_toInt h1 h2]; rfl
theorem kx_i2l (hx : p.tables.exec = Jvm.exec) (hb : c.code = cc) {z : Int} (h1 : -2147483648 ≤ z) (h2 : z ≤ 2147483647) (d : decode cc pc = .ok (.i2l, 1)) (k : W p l e R s m args below meth c H locs cells slots Q (F0 m (pc + 1) ls (.long (kL z) :: rest))) : W p l e R s m args below meth c H locs cells slots Q (F0 m pc ls (.int (kI z) :: rest)) :=
  lv_i2l hx hb d (kI_toL h1 h2) k
theorem kx_lconst0 (hx : p.tables.exec = Jvm.exec) (hb : c.code = cc) (d : decode cc pc = .ok (.lconst 0, 1)) (k : W p l e R s m args below meth c H locs cells slots Q (F0 m (pc + 1) ls (.long (kL 0) :: rest))) : W p l e R s m args below meth c H locs cells slots Q (F0 m pc ls rest) := lv_lconst hx hb d (by decide) k
theorem kx_lconst1 (hx : p.tables.exec = Jvm.exec) (hb : c.code = cc) (d : decode cc pc = .ok (.lconst 1, 1)) (k : W p l e R s m args below meth c H locs cells slots Q (F0 m (pc + 1) ls (.long (kL 1) :: rest))) : W p l e R s m args below meth c H locs cells slots Q (F0 m pc ls rest) := lv_lconst hx hb d (by decide) k
theorem kx_last (hx : p.tables.exec = Jvm.exec) (hb : c.code = cc) (hK : kK D s) {n : Nat} {g : Nat → Int64} (hA : kAl D H a n g) (hS0 : va_S A H0 H locs) (hAa : A a) {i : Int} {x : Int64} (j : Nat) (hj : i = (j : Int)) (hn : j < n) (hn31 : n < 2147483648) (d : decode cc pc = .ok (.lastore, 1)) (kk : ∀ (H1 : Heap) (locs1 : List Loc), kAl D H1 a n (kup g j x) → kUp H a H1 → va_S A H0 H1 locs1 → W p l e R s m args below meth c H1 locs1 cells slots Q (F0 m (pc + 1) ls rest)) : W p l e R s m args below meth c H locs cells slots Q (F0 m pc ls (.long x :: .int (kI i) :: .ref a :: rest)) := by
  refine W.last hx hb (kP1 hA 0 _ rfl) ((hK.va.2 2 _ rfl).1 n (fun j => .long (g j))) (fun q => by cases q) (by show ¬ (kI i < 0 ∨ (arrV _ _ _).slots.size ≤ _); rw [arrV_size]; exact kI_in hj hn hn31) rfl rfl d fun H1 e1 z oq => ?_
  refine kk H1 _ ?_ ⟨z, oq⟩ (hS0.put z oq hAa)
  show H1[a]? = some (vp_cell _ _)
  rw [e1, vp_cell_l, vp_cell_l, arrV_store, kI_cl hj (by omega)]
  congr 2
  funext q
  by_cases hq : q = j
  · subst hq
    simp [updV, kup]
  · simp [updV, kup, hq]
theorem kx_dast (hx : p.tables.exec = Jvm.exec) (hb : c.code = cc) (hK : kK D s) {n : Nat} {g : Nat → UInt64} (hA : kAd D H a n g) (hS0 : va_S A H0 H locs) (hAa : A a) {i : Int} {x : UInt64} (j : Nat) (hj : i = (j : Int)) (hn : j < n) (hn31 : n < 2147483648) (d : decode cc pc = .ok (.dastore, 1)) (kk : ∀ (H1 : Heap) (locs1 : List Loc), kAd D H1 a n (kup g j x) → kUp H a H1 → va_S A H0 H1 locs1 → W p l e R s m args below meth c H1 locs1 cells slots Q (F0 m (pc + 1) ls rest)) : W p l e R s m args below meth c H locs cells slots Q (F0 m pc ls (.double x :: .int (kI i) :: .ref a :: rest)) := by
  refine W.dast hx hb (kP1 hA 0 _ rfl) ((hK.va.2 3 _ rfl).1 n (fun j => .double (g j))) (fun q => by cases q) (by show ¬ (kI i < 0 ∨ (arrV _ _ _).slots.size ≤ _); rw [arrV_size]; exact kI_in hj hn hn31) rfl rfl d fun H1 e1 z oq => ?_
  refine kk H1 _ ?_ ⟨z, oq⟩ (hS0.put z oq hAa)
  show H1[a]? = some (vp_cell _ _)
  rw [e1, vp_cell_d, vp_cell_d, arrV_store, kI_cl hj (by omega)]
  congr 2
  funext q
  by_cases hq : q = j
  · subst hq
    simp [updV, kup]
  · simp [updV, kup, hq]
/-- a contract that never throws -/
def kNX : String → State → State → Prop := fun _ _ _ => False
theorem met_of_vx {y : MethodName} {ws : List Cond} {rm : Room} {Pc : Array Value → State → Prop} {Qc : Array Value → State → Outcome → State → Prop} {mc ms : Nat} {free : Addr → Prop} (h : vx_Met l y ws rm Pc Qc kNX mc ms free) : Met l y ws rm Pc Qc mc ms free := by
  intro p e h1 h2 h3 s m args below h4 h5 h6 h7
  obtain ⟨n, o, a1, a2, a3, a4⟩ := h p e h1 h2 h3 s m args below h4 h5 h6 h7
  refine ⟨n, o, a1, a2, a3, ?_⟩
  rcases a4 with q | ⟨q, hq, E, ce, L, hf, -⟩
  · exact q
  · exact hf.elim
/-- a call that throws, caught here -/
theorem kx_catch {E own nm : String} {A1 : Nat → Prop} {free : Nat → Prop} {st0 : List Value} {mc1 ms1 : Nat} {av : Array Value} (hr : vx_Run p l e R s m args below meth c H locs cells slots mc1 ms1 (F0 m pc ls st0) rest (kFl av) (kXC E A1) free) (hS : va_S A s.heap H locs) (hA : ∀ q, q < H.size → A1 q → A q) (hf : ∀ q, free q → A q) (hts : ∀ w ∈ lw_all, w.before args s = true) (hK : kK D s) (hown : s.vm.findClass own = some m.cls) (pre : List ExceptionTableEntry) (x : ExceptionTableEntry) (suf : List ExceptionTableEntry) (hsplit : c.exceptionTable.toList = pre ++ x :: suf)
    (hpass : ∀ z ∈ pre, z.catchType ≠ 0 ∧ ∃ nm : String, Cond.classLink own z.catchType nm ∈ lw_all ∧ (E, nm) ∈ kNcL) (hcov : covers x pc = true) (h0 : x.catchType ≠ 0) (hlink : Cond.classLink own x.catchType nm ∈ lw_all) (hcast : (Cond.castable E nm) ∈ lw_tbl)
    (kk : ∀ (q : Nat) (H1 : Heap) (locs1 : List Loc), kFr A1 H H1 → va_S A s.heap H1 locs1 → W p l e R s m args below meth c H1 locs1 (cells + mc1) (slots + ms1) Q (F0 m x.handlerPc ls [.ref q])) :
    W p l e R s m args below meth c H locs cells slots Q (F0 m pc ls st0) := by
  intro T hT X
  rcases hr T hT X with ⟨v, st₀, t, T', L, h0, X', hL, e1, e2, hF, st⟩ | ⟨q, st₀, t, T', L, E', ce, hh0, X', hL, e1, e2, ⟨hE, hF⟩, hce, hcv, hcl, st⟩
  · exact hF.elim
  · subst hE
    obtain ⟨k1, k2, k3⟩ := vx_keep hh0 e1 hS hA hf hL hF
    obtain ⟨t2, a1, b1⟩ := vx_catch (H := T'.heap) (rest := rest) (pc := pc) (ls := ls) hown pre x suf hsplit (fun z hz => Or.inr (by obtain ⟨z1, nm, z2, z3⟩ := hpass z hz; exact ⟨z1, nm, hts _ z2, hK.nc z3⟩)) hcov h0 (hts _ hlink) (va_Nw.use rfl (hK.w hcast rfl)) (by rw [e1]; exact hce) hcv hcl (kk q T'.heap (locs ++ L) ⟨k1, k2⟩ k3) T' rfl X'
    exact ⟨t2, st.trans a1, b1⟩
end KX8
set_option maxHeartbeats 4000000 in
set_option maxRecDepth 100000 in
theorem w_levelOf (l : Launch) (hl9 : l.stackTraces = false) (D : kG) (H : Heap) (x1 : Nat) (snp : Option Nat) (hi : Nat) (bu : Nat) (st : Nat) (la : Nat) (mc : Int) (ea : Nat) (F : Fts) (S : Ls) (gap : Int) (ln : Nat) (out : Nat) (go : Nat → Int64) (hO_x1 : kO D H x1 0 [.ref st, va_rf (snp), .ref hi, .ref bu]) (hO_st : kO D H st 1 [.ref la, .int (kI (gap))]) (hO_la : kO D H la 9 [.int (kI (mc)), .ref ea, .int (kI ((S.length : Nat) : Int))]) (hP_kLs_ea : kLs D H ea S.length F) (hP_kLn_F : kLn D H F S) (hA_out : kAl D H out 1 go) (hok : LsOK S gap) (hln : ln < S.length) (bs_out : kBase D ≤ out) (hrv : -2147483648 ≤ ln_lv (st_ln S ln) ∧ ln_lv (st_ln S ln) ≤ 2147483647) : Met l yX0_levelOf (wsW_ yX0_levelOf cX0_levelOf 4 (some .int) [((0 : Nat), (9 : Nat), (12 : Nat), (13 : Nat))]) ({ frames := 5, cells := 0, slots := 0, locals := 106 } : Room) (kPre D H [.ref x1, .int (kI ((ln : Nat) : Int)), .ref out]) (kQi (fun (r : Int) H' => (r = 0) ∧ (kAl D H' out 1 ((kup go 0 (kL (ln_lv (st_ln S ln))))))) (fun q : Nat => q = out)) (0) (0) ((fun q : Nat => q = out)) := by
  refine met_of_vx (vx_ofWH (cc := cX0_levelOf) (maxL := 4) (ret := (some .int)) (hh := [((0 : Nat), (9 : Nat), (12 : Nat), (13 : Nat))]) (by decide) rfl ?_)
  intro p e s m args below meth c s₁ B hml hv
  obtain ⟨rfl, hH, hK⟩ := hv
  subst hH
  have hx := B.exec
  have hb := B.bytes
  have hr := B.returns
  have hts := atoms_spec (ws := wsW_ yX0_levelOf cX0_levelOf 4 (some .int) [((0 : Nat), (9 : Nat), (12 : Nat), (13 : Nat))]) B.pre
  have htab := vx_table (x := yX0_levelOf) B (hts _ List.mem_cons_self)
  have hts : ∀ w ∈ lw_all, w.before _ s = true := fun w h => hts w (List.mem_cons_of_mem _ h)
  have hown : s.vm.findClass RX0 = some m.cls := findClass_of_methodNamed B.named
  have hlk := B.notSynchronized
  have hS : va_S (fun q : Nat => q = out) s.heap s.heap [] := va_S.rf
  have hB : ∀ q, (fun q : Nat => q = out) q → kBase D ≤ q := fun q h => by (have hks := hK.size; (try dsimp only at h); omega)
  have hl := lv_entry ([.ref x1, .int (kI ((ln : Nat) : Int)), .ref out]) (n := 4) (Nat.le_of_ble_eq_true rfl)
  rw [lg_entry_eq]
  generalize (lg_sl ([.ref x1, .int (kI ((ln : Nat) : Int)), .ref out]) ++ List.replicate (4 - (lg_sl ([.ref x1, .int (kI ((ln : Nat) : Int)), .ref out])).length) Slot.unset).toArray = ls at hl ⊢
  have hl : lv_has ls 4 [(0, .ref x1), (1, .int (kI ((ln : Nat) : Int))), (2, .ref out)] := hl
  have hltout := hA_out.lt
  refine lv_aload_n hx hb dX0_levelOf_0 rfl (lv_at hl 2 rfl) ?_
  refine kx_iconst hx hb dX0_levelOf_1 ?_
  refine lv_aload_n hx hb dX0_levelOf_2 rfl (lv_at hl 0 rfl) ?_
  refine lv_iload_n hx hb dX0_levelOf_3 rfl (lv_at hl 1 rfl) ?_
  refine kx_ci0 (va_runV (As := [.int (kI ((ln : Nat) : Int))]) (rest := [.int (kI (0)), .ref out]) ⟨hx, hb, hml, hown, hts⟩ (m_X1_levelOf l D s.heap x1 snp hi bu st la mc ea F S gap ln hO_x1 hO_st hO_la hP_kLs_ea hP_kLn_F (by first | assumption | omega) (by first | assumption | omega)) (cwV 1 hts (lw_V q1934 q1935 q1936 q79 q1937) rfl rfl rfl (by decide +kernel) ⟨Nat.le_of_ble_eq_true rfl, Nat.le_of_ble_eq_true rfl⟩) (kx_pv hK hS hB (kx_rc hK hO_x1 (C := RX1) (T := TX1) (N := 4) rfl)) rfl rfl hl.1 rfl (lv_room (Nat.le_of_ble_eq_true rfl)) dX0_levelOf_4 ⟨by first | exact Nat.le_of_ble_eq_true rfl | omega | (show _ ≤ _; omega) | (dsimp only [headSpec]; omega), by first | exact Nat.le_of_ble_eq_true rfl | omega | (show _ ≤ _; omega) | (dsimp only [headSpec]; omega)⟩) hS (fun z_4 locs_1 hz_3 hS_2 => ?_)
  subst z_4
  refine kx_i2l hx hb (z := ln_lv (st_ln S ln)) (by omega) (by omega) dX0_levelOf_7 ?_
  refine kx_last (x := kL (ln_lv (st_ln S ln))) hx hb hK hA_out hS_2 (by first | rfl | exact Or.inl rfl | exact Or.inr rfl | exact Or.inr (Or.inl rfl) | exact Or.inr (Or.inr rfl) | exact Or.inr (Or.inr (Or.inl rfl)) | exact Or.inr (Or.inr (Or.inr rfl)) | ((try dsimp only); (try simp only [kNW]); omega)) 0 (rfl) (by omega) (by omega) dX0_levelOf_8 (fun H_7 locs_8 hA_6 hU_5 hS_9 => ?_)
  have hzu_10 := hU_5.1
  refine lv_goto (tgt := 15) hx hb dX0_levelOf_9 (by decide) ?_
  refine kx_iconst hx hb dX0_levelOf_15 ?_
  refine vx_ret ?_
  exact kx_iret (z := 0) hx hb hr hlk (⟨by rfl, hA_6⟩) hS_9 dX0_levelOf_16

set_option maxHeartbeats 4000000 in
set_option maxRecDepth 100000 in
theorem wx_levelOf (l : Launch) (hl9 : l.stackTraces = false) (D : kG) (H : Heap) (x1 : Nat) (snp : Option Nat) (hi : Nat) (bu : Nat) (st : Nat) (la : Nat) (mc : Int) (ea : Nat) (F : Fts) (S : Ls) (gap : Int) (li : Int) (out : Nat) (hO_x1 : kO D H x1 0 [.ref st, va_rf (snp), .ref hi, .ref bu]) (hO_st : kO D H st 1 [.ref la, .int (kI (gap))]) (hO_la : kO D H la 9 [.int (kI (mc)), .ref ea, .int (kI ((S.length : Nat) : Int))]) (hP_kLs_ea : kLs D H ea S.length F) (hP_kLn_F : kLn D H F S) (hok : LsOK S gap) (hr_li : -2147483648 ≤ li ∧ li ≤ 2147483647) (hnl : li < 0 ∨ (S.length : Int) ≤ li) : Met l yX0_levelOf (wsW_ yX0_levelOf cX0_levelOf 4 (some .int) [((0 : Nat), (9 : Nat), (12 : Nat), (13 : Nat))]) ({ frames := 9, cells := 1, slots := 6, locals := 183 } : Room) (kPre D H [.ref x1, .int (kI (li)), .ref out]) (kQi (fun (r : Int) H' => (r = 1) ∧ (True)) (kNW H)) (1) (6) ((kNW H)) := by
  refine met_of_vx (vx_ofWH (cc := cX0_levelOf) (maxL := 4) (ret := (some .int)) (hh := [((0 : Nat), (9 : Nat), (12 : Nat), (13 : Nat))]) (by decide) rfl ?_)
  intro p e s m args below meth c s₁ B hml hv
  obtain ⟨rfl, hH, hK⟩ := hv
  subst hH
  have hx := B.exec
  have hb := B.bytes
  have hr := B.returns
  have hts := atoms_spec (ws := wsW_ yX0_levelOf cX0_levelOf 4 (some .int) [((0 : Nat), (9 : Nat), (12 : Nat), (13 : Nat))]) B.pre
  have htab := vx_table (x := yX0_levelOf) B (hts _ List.mem_cons_self)
  have hts : ∀ w ∈ lw_all, w.before _ s = true := fun w h => hts w (List.mem_cons_of_mem _ h)
  have hown : s.vm.findClass RX0 = some m.cls := findClass_of_methodNamed B.named
  have hlk := B.notSynchronized
  have hS : va_S (kNW s.heap) s.heap s.heap [] := va_S.rf
  have hB : ∀ q, (kNW s.heap) q → kBase D ≤ q := fun q h => Nat.le_trans hK.size h
  have hl := lv_entry ([.ref x1, .int (kI (li)), .ref out]) (n := 4) (Nat.le_of_ble_eq_true rfl)
  rw [lg_entry_eq]
  generalize (lg_sl ([.ref x1, .int (kI (li)), .ref out]) ++ List.replicate (4 - (lg_sl ([.ref x1, .int (kI (li)), .ref out])).length) Slot.unset).toArray = ls at hl ⊢
  have hl : lv_has ls 4 [(0, .ref x1), (1, .int (kI (li))), (2, .ref out)] := hl
  refine lv_aload_n hx hb dX0_levelOf_0 rfl (lv_at hl 2 rfl) ?_
  refine kx_iconst hx hb dX0_levelOf_1 ?_
  refine lv_aload_n hx hb dX0_levelOf_2 rfl (lv_at hl 0 rfl) ?_
  refine lv_iload_n hx hb dX0_levelOf_3 rfl (lv_at hl 1 rfl) ?_
  refine kx_catch (own := RX0) (nm := "java/lang/IndexOutOfBoundsException") (vx_runV (As := [.int (kI (li))]) (rest := [.int (kI (0)), .ref out]) ⟨hx, hb, hml, hown, hts⟩ (x_levelOf l hl9 D s.heap x1 snp hi bu st la mc ea F S gap li hO_x1 hO_st hO_la hP_kLs_ea hP_kLn_F (by first | assumption | omega) (by first | assumption | omega) (by first | assumption | omega)) (cwV 1 hts (lw_V q1934 q1935 q1936 q79 q1937) rfl rfl rfl (by decide +kernel) ⟨Nat.le_of_ble_eq_true rfl, Nat.le_of_ble_eq_true rfl⟩) (kx_pv hK hS hB (kx_rc hK hO_x1 (C := RX1) (T := TX1) (N := 4) rfl)) rfl rfl hl.1 rfl (lv_room (Nat.le_of_ble_eq_true rfl)) dX0_levelOf_4 ⟨by first | exact Nat.le_of_ble_eq_true rfl | omega | (show _ ≤ _; omega) | (dsimp only [headSpec]; omega), by first | exact Nat.le_of_ble_eq_true rfl | omega | (show _ ≤ _; omega) | (dsimp only [headSpec]; omega)⟩) hS (fun q _ h => by have h9 := hS.1; (try dsimp only at h); (try dsimp only); (try simp only [kNW] at h); (try simp only [kNW]); omega) (fun q h => by have h9 := hS.1; (try dsimp only at h); (try dsimp only); (try simp only [kNW] at h); (try simp only [kNW]); omega) hts hK hown [] ⟨0, 9, 12, 13⟩ [] (by rw [htab]; rfl) (fun z hz => by cases hz) (by decide) (by decide) q1808 q1825 (fun q9_1 H_2 locs_3 hF_4 hS_5 => ?_)
  have hF_4 := hF_4.nw
  refine W.widen (k := 1) (n := 6) (Nat.le_of_ble_eq_true rfl) (Nat.le_of_ble_eq_true rfl) ?_
  refine lv_astore_n (lv' := [(3, .ref q9_1), (0, .ref x1), (1, .int (kI (li))), (2, .ref out)]) hx hb dX0_levelOf_12 rfl hl (by decide) rfl (fun ls hl => ?_)
  refine kx_iconst hx hb dX0_levelOf_13 ?_
  refine vx_ret ?_
  exact kx_iret (z := 1) hx hb hr hlk (⟨by rfl, by first | assumption | rfl | omega | grind⟩) hS_5 dX0_levelOf_14

set_option maxHeartbeats 4000000 in
set_option maxRecDepth 100000 in
theorem w_isClosed (l : Launch) (hl9 : l.stackTraces = false) (D : kG) (H : Heap) (x1 : Nat) (snp : Option Nat) (hi : Nat) (bu : Nat) (st : Nat) (la : Nat) (mc : Int) (ea : Nat) (F : Fts) (S : Ls) (gap : Int) (ln : Nat) (out : Nat) (go : Nat → Int64) (hO_x1 : kO D H x1 0 [.ref st, va_rf (snp), .ref hi, .ref bu]) (hO_st : kO D H st 1 [.ref la, .int (kI (gap))]) (hO_la : kO D H la 9 [.int (kI (mc)), .ref ea, .int (kI ((S.length : Nat) : Int))]) (hP_kLs_ea : kLs D H ea S.length F) (hP_kLn_F : kLn D H F S) (hA_out : kAl D H out 1 go) (hok : LsOK S gap) (hln : ln < S.length) (bs_out : kBase D ≤ out) : Met l yX0_isClosed (wsW_ yX0_isClosed cX0_isClosed 4 (some .int) [((0 : Nat), (16 : Nat), (19 : Nat), (13 : Nat))]) ({ frames := 5, cells := 0, slots := 0, locals := 106 } : Room) (kPre D H [.ref x1, .int (kI ((ln : Nat) : Int)), .ref out]) (kQi (fun (r : Int) H' => (r = 0) ∧ (kAl D H' out 1 ((kup go 0 (kL (kb (ln_cl (st_ln S ln)))))))) (fun q : Nat => q = out)) (0) (0) ((fun q : Nat => q = out)) := by
  refine met_of_vx (vx_ofWH (cc := cX0_isClosed) (maxL := 4) (ret := (some .int)) (hh := [((0 : Nat), (16 : Nat), (19 : Nat), (13 : Nat))]) (by decide) rfl ?_)
  intro p e s m args below meth c s₁ B hml hv
  obtain ⟨rfl, hH, hK⟩ := hv
  subst hH
  have hx := B.exec
  have hb := B.bytes
  have hr := B.returns
  have hts := atoms_spec (ws := wsW_ yX0_isClosed cX0_isClosed 4 (some .int) [((0 : Nat), (16 : Nat), (19 : Nat), (13 : Nat))]) B.pre
  have htab := vx_table (x := yX0_isClosed) B (hts _ List.mem_cons_self)
  have hts : ∀ w ∈ lw_all, w.before _ s = true := fun w h => hts w (List.mem_cons_of_mem _ h)
  have hown : s.vm.findClass RX0 = some m.cls := findClass_of_methodNamed B.named
  have hlk := B.notSynchronized
  have hS : va_S (fun q : Nat => q = out) s.heap s.heap [] := va_S.rf
  have hB : ∀ q, (fun q : Nat => q = out) q → kBase D ≤ q := fun q h => by (have hks := hK.size; (try dsimp only at h); omega)
  have hl := lv_entry ([.ref x1, .int (kI ((ln : Nat) : Int)), .ref out]) (n := 4) (Nat.le_of_ble_eq_true rfl)
  rw [lg_entry_eq]
  generalize (lg_sl ([.ref x1, .int (kI ((ln : Nat) : Int)), .ref out]) ++ List.replicate (4 - (lg_sl ([.ref x1, .int (kI ((ln : Nat) : Int)), .ref out])).length) Slot.unset).toArray = ls at hl ⊢
  have hl : lv_has ls 4 [(0, .ref x1), (1, .int (kI ((ln : Nat) : Int))), (2, .ref out)] := hl
  have hltout := hA_out.lt
  refine lv_aload_n hx hb dX0_isClosed_0 rfl (lv_at hl 2 rfl) ?_
  refine kx_iconst hx hb dX0_isClosed_1 ?_
  refine lv_aload_n hx hb dX0_isClosed_2 rfl (lv_at hl 0 rfl) ?_
  refine lv_iload_n hx hb dX0_isClosed_3 rfl (lv_at hl 1 rfl) ?_
  refine kx_cb0 (va_runV (As := [.int (kI ((ln : Nat) : Int))]) (rest := [.int (kI (0)), .ref out]) ⟨hx, hb, hml, hown, hts⟩ (m_X1_isClosed l D s.heap x1 snp hi bu st la mc ea F S gap ln hO_x1 hO_st hO_la hP_kLs_ea hP_kLn_F (by first | assumption | omega) (by first | assumption | omega)) (cwV 1 hts (lw_V q1962 q1963 q1964 q79 q1965) rfl rfl rfl (by decide +kernel) ⟨Nat.le_of_ble_eq_true rfl, Nat.le_of_ble_eq_true rfl⟩) (kx_pv hK hS hB (kx_rc hK hO_x1 (C := RX1) (T := TX1) (N := 4) rfl)) rfl rfl hl.1 rfl (lv_room (Nat.le_of_ble_eq_true rfl)) dX0_isClosed_4 ⟨by first | exact Nat.le_of_ble_eq_true rfl | omega | (show _ ≤ _; omega) | (dsimp only [headSpec]; omega), by first | exact Nat.le_of_ble_eq_true rfl | omega | (show _ ≤ _; omega) | (dsimp only [headSpec]; omega)⟩) hS (fun z_4 locs_1 hz_3 hS_2 => ?_)
  subst z_4
  refine kx_ifz (tgt := 14) hx hb dX0_isClosed_7 (by decide) (fun cb9 => ?_) (fun cb9 => ?_)
  · -- taken at 7
    refine kx_lconst0 hx hb dX0_isClosed_14 ?_
    refine kx_eql (kL (kb (ln_cl (st_ln S ln)))) (by rw [cb9]; rfl) ?_
    refine kx_last (x := kL (kb (ln_cl (st_ln S ln)))) hx hb hK hA_out hS_2 (by first | rfl | exact Or.inl rfl | exact Or.inr rfl | exact Or.inr (Or.inl rfl) | exact Or.inr (Or.inr rfl) | exact Or.inr (Or.inr (Or.inl rfl)) | exact Or.inr (Or.inr (Or.inr rfl)) | ((try dsimp only); (try simp only [kNW]); omega)) 0 (rfl) (by omega) (by omega) dX0_isClosed_15 (fun H_7 locs_8 hA_6 hU_5 hS_9 => ?_)
    have hzu_10 := hU_5.1
    refine lv_goto (tgt := 22) hx hb dX0_isClosed_16 (by decide) ?_
    refine kx_iconst hx hb dX0_isClosed_22 ?_
    refine vx_ret ?_
    exact kx_iret (z := 0) hx hb hr hlk (⟨by rfl, hA_6⟩) hS_9 dX0_isClosed_23
  · -- not taken at 7
    refine kx_lconst1 hx hb dX0_isClosed_10 ?_
    refine lv_goto (tgt := 15) hx hb dX0_isClosed_11 (by decide) ?_
    refine kx_eql (kL (kb (ln_cl (st_ln S ln)))) (by rw [cb9]; rfl) ?_
    refine kx_last (x := kL (kb (ln_cl (st_ln S ln)))) hx hb hK hA_out hS_2 (by first | rfl | exact Or.inl rfl | exact Or.inr rfl | exact Or.inr (Or.inl rfl) | exact Or.inr (Or.inr rfl) | exact Or.inr (Or.inr (Or.inl rfl)) | exact Or.inr (Or.inr (Or.inr rfl)) | ((try dsimp only); (try simp only [kNW]); omega)) 0 (rfl) (by omega) (by omega) dX0_isClosed_15 (fun H_13 locs_14 hA_12 hU_11 hS_15 => ?_)
    have hzu_16 := hU_11.1
    refine lv_goto (tgt := 22) hx hb dX0_isClosed_16 (by decide) ?_
    refine kx_iconst hx hb dX0_isClosed_22 ?_
    refine vx_ret ?_
    exact kx_iret (z := 0) hx hb hr hlk (⟨by rfl, hA_12⟩) hS_15 dX0_isClosed_23

