/-! CORE 7: bytes, letters -/
theorem b8_i2b : ∀ z : Nat, z < 128 → (kI (z : Int)).toInt8.toInt32 = kI (z : Int) := by decide +kernel
theorem b8_i2c : ∀ z : Nat, z < 128 → ((kI (z : Int)).toUInt32 % 65536).toInt32 = kI (z : Int) := by decide +kernel
theorem b8_and : ∀ z : Nat, z < 128 → kI (z : Int) &&& kI 255 = kI (z : Int) := by decide +kernel
theorem b8_fit : ∀ z : Nat, z < 128 → fits .byte (.int (kI (z : Int))) = true := by decide +kernel
theorem b8_nar : ∀ z : Nat, z < 128 → narrow .byte (.int (kI (z : Int))) = .int (kI (z : Int)) := by decide +kernel
theorem b8_narC : ∀ z : Nat, z < 128 → narrow .char (.int (kI (z : Int))) = .int (kI (z : Int)) := by decide +kernel
theorem b8_lift {P : Int → Prop} (h : ∀ z : Nat, z < 128 → P (z : Int)) {z : Int} (h1 : 0 ≤ z) (h2 : z < 128) : P z := by
  have := h z.toNat (by omega)
  rwa [show ((z.toNat : Nat) : Int) = z by omega] at this
theorem b8_shr (x : Int32) : x >>> (kI 0 &&& 31) = x := by
  have : (kI 0 &&& 31 : Int32) = 0 := by decide
  rw [this]; simp
theorem b8_shl (x : Int32) : x <<< (kI 0 &&& 31) = x := by
  have : (kI 0 &&& 31 : Int32) = 0 := by decide
  rw [this]; simp
theorem lw_SU {own : String} {idx : Nat} {y : MethodName} {b : ByteArray} {L : Nat} {r : Option FieldType} (h1 : Cond.methodLink own idx y ∈ lw_all) (h2 : Cond.sameMethod y.cls y.cls y.name y.desc ∈ lw_all) (h3 : Cond.superclass own y.cls ∈ lw_all) (h4 : Cond.instanceMethod y ∈ lw_all) (h5 : Cond.initialized y.cls ∈ lw_all) (h6 : Cond.code y b L r ∈ lw_all) : GoodIn lw_all (va_wsSU own idx y (ws_ y b L r)) := by
  refine lw_app ?_ (lw_meth h6)
  intro w hw
  simp only [List.mem_cons, List.not_mem_nil, or_false] at hw
  rcases hw with e | e | e | e | e
  · rw [e]; exact h1
  · rw [e]; exact h2
  · rw [e]; exact h3
  · rw [e]; exact h4
  · rw [e]; exact h5
section KX9
variable {p : Program} {l : Launch} {e : Env} {R : Room} {s : State} {m : MethodId} {args : Array Value} {below : List Frame} {meth : Method} {c : Code} {H : Heap} {locs : List Loc} {cells slots : Nat} {Q : State → Prop}
variable {cc : ByteArray} {pc : Nat} {ls : Array Slot} {rest : List Value} {D : kG} {A : Nat → Prop} {a : Nat} {H0 : Heap}
theorem kx_i2b (hx : p.tables.exec = Jvm.exec) (hb : c.code = cc) {z : Int} (h1 : 0 ≤ z) (h2 : z < 128) (d : decode cc pc = .ok (.i2b, 1)) (k : W p l e R s m args below meth c H locs cells slots Q (F0 m (pc + 1) ls (.int (kI z) :: rest))) : W p l e R s m args below meth c H locs cells slots Q (F0 m pc ls (.int (kI z) :: rest)) := lv_i2b hx hb d (b8_lift (P := fun z => (kI z).toInt8.toInt32 = kI z) b8_i2b h1 h2) k
theorem kx_i2c (hx : p.tables.exec = Jvm.exec) (hb : c.code = cc) {z : Int} (h1 : 0 ≤ z) (h2 : z < 128) (d : decode cc pc = .ok (.i2c, 1)) (k : W p l e R s m args below meth c H locs cells slots Q (F0 m (pc + 1) ls (.int (kI z) :: rest))) : W p l e R s m args below meth c H locs cells slots Q (F0 m pc ls (.int (kI z) :: rest)) := lv_i2c hx hb d (b8_lift (P := fun z => ((kI z).toUInt32 % 65536).toInt32 = kI z) b8_i2c h1 h2) k
theorem kx_iand8 (hx : p.tables.exec = Jvm.exec) (hb : c.code = cc) {z : Int} (h1 : 0 ≤ z) (h2 : z < 128) (d : decode cc pc = .ok (.iand, 1)) (k : W p l e R s m args below meth c H locs cells slots Q (F0 m (pc + 1) ls (.int (kI z) :: rest))) : W p l e R s m args below meth c H locs cells slots Q (F0 m pc ls (.int (kI 255) :: .int (kI z) :: rest)) := lv_iand hx hb d (by rw [b8_lift (P := fun z => kI z &&& kI 255 = kI z) b8_and h1 h2]; exact k)
theorem kx_ishr0 (hx : p.tables.exec = Jvm.exec) (hb : c.code = cc) {z : Int} (d : decode cc pc = .ok (.ishr, 1)) (k : W p l e R s m args below meth c H locs cells slots Q (F0 m (pc + 1) ls (.int (kI z) :: rest))) : W p l e R s m args below meth c H locs cells slots Q (F0 m pc ls (.int (kI 0) :: .int (kI z) :: rest)) := lv_ishr hx hb d (by rw [b8_shr]; exact k)
theorem kx_ishl0 (hx : p.tables.exec = Jvm.exec) (hb : c.code = cc) {z : Int} (d : decode cc pc = .ok (.ishl, 1)) (k : W p l e R s m args below meth c H locs cells slots Q (F0 m (pc + 1) ls (.int (kI z) :: rest))) : W p l e R s m args below meth c H locs cells slots Q (F0 m pc ls (.int (kI 0) :: .int (kI z) :: rest)) := lv_ishl hx hb d (by rw [b8_shl]; exact k)
theorem kx_cret {P : Int → Heap → Prop} {z : Int} (hx : p.tables.exec = Jvm.exec) (hb : c.code = cc) (hr : meth.sig.returnType = some .char) (hlocks : meth.locks = false) (h1 : 0 ≤ z) (h2 : z < 128) (hP : P z H) (hS : va_S A s.heap H locs) (d : decode cc pc = .ok (.ireturn, 1)) : W p l e R s m args below meth c H locs cells slots (MQ below (kQi P A) args s cells slots A) (F0 m pc ls [.int (kI z)]) := W.zret (v := kI z) hx hb hr (b8_lift (P := fun z => narrow .char (.int (kI z)) = .int (kI z)) b8_narC h1 h2) (fun t ht hW => ⟨⟨kI z, z, rfl, rfl, by subst ht; exact hP⟩, hS.F ht⟩) hS.2.2 d hlocks
theorem kx_ldc (hx : p.tables.exec = Jvm.exec) (hb : c.code = cc) {own : String} {index : Nat} {v : Int32} {z : Int} (hown : s.vm.findClass own = some m.cls) (hconst : (Jvm.Cond.constant own index v).before args s = true) (hv : v = kI z) (d : decode cc pc = .ok (.ldc index, 2)) (k : W p l e R s m args below meth c H locs cells slots Q (F0 m (pc + 2) ls (.int (kI z) :: rest))) : W p l e R s m args below meth c H locs cells slots Q (F0 m pc ls rest) := lv_ldc hx hb hown hconst d (by rw [hv]; exact k)
theorem kx_bald (hx : p.tables.exec = Jvm.exec) (hb : c.code = cc) (hK : kK D s) {n : Nat} {g : Nat → Int} (hA : kAb D H a n g) {i : Int} (j : Nat) (hj : i = (j : Int)) (hn : j < n) (hn31 : n < 2147483648) (d : decode cc pc = .ok (.baload, 1)) (kk : W p l e R s m args below meth c H locs cells slots Q (F0 m (pc + 1) ls (.int (kI (g j)) :: rest))) : W p l e R s m args below meth c H locs cells slots Q (F0 m pc ls (.int (kI i) :: .ref a :: rest)) := by
  refine va_bald hx hb hK.va (kP1 hA) 0 1 rfl rfl (kI_in hj hn hn31) d ?_
  rw [kI_cl hj (by omega)]
  exact kk
theorem kx_tabb (hx : p.tables.exec = Jvm.exec) (hb : c.code = cc) {t n : Nat} {f : Nat → Int} (hT : va_T .byte t n (fun j => .int (kI (f j))) (kOld D) s s.heap) (hS : va_S A s.heap H locs) (hB : ∀ q, A q → kBase D ≤ q) {i : Int} (j : Nat) (hj : i = (j : Int)) (hn : j < n) (hn31 : n < 2147483648) (d : decode cc pc = .ok (.baload, 1)) (kk : W p l e R s m args below meth c H locs cells slots Q (F0 m (pc + 1) ls (.int (kI (f j)) :: rest))) : W p l e R s m args below meth c H locs cells slots Q (F0 m pc ls (.int (kI i) :: .ref t :: rest)) :=
  va_tb hx hb (hT.narrow hB) hS (kI_in hj hn hn31) (v := .int (kI (f j))) (by rw [kI_cl hj (by omega)]) d kk
theorem kx_bast (hx : p.tables.exec = Jvm.exec) (hb : c.code = cc) (hK : kK D s) {n : Nat} {g : Nat → Int} (hA : kAb D H a n g) (hS0 : va_S A H0 H locs) (hAa : A a) {i x : Int} (h1 : 0 ≤ x) (h2 : x < 128) (j : Nat) (hj : i = (j : Int)) (hn : j < n) (hn31 : n < 2147483648) (d : decode cc pc = .ok (.bastore, 1)) (kk : ∀ (H1 : Heap) (locs1 : List Loc), kAb D H1 a n (kup g j x) → kUp H a H1 → va_S A H0 H1 locs1 → W p l e R s m args below meth c H1 locs1 cells slots Q (F0 m (pc + 1) ls rest)) : W p l e R s m args below meth c H locs cells slots Q (F0 m pc ls (.int (kI x) :: .int (kI i) :: .ref a :: rest)) := by
  refine W.bast hx hb (kP1 hA 0 _ rfl) ((hK.va.2 1 _ rfl).1 n (fun j => .int (kI (g j)))) (fun q => by cases q) (by show ¬ (kI i < 0 ∨ (arrV _ _ _).slots.size ≤ _); rw [arrV_size]; exact kI_in hj hn hn31) rfl rfl d fun H1 e1 z oq => ?_
  refine kk H1 _ ?_ ⟨z, oq⟩ (hS0.put z oq hAa)
  show H1[a]? = some (vp_cell _ _)
  rw [e1, vp_cell_i, vp_cell_i, arrV_store, kI_cl hj (by omega)]
  congr 2
  funext q
  by_cases hq : q = j
  · subst hq
    simp [updV, kup, b8_lift (P := fun z => narrow .byte (.int (kI z)) = .int (kI z)) b8_nar h1 h2]
  · simp [updV, kup, hq]
theorem kx_copyb (hx : p.tables.exec = Jvm.exec) (hb : c.code = cc) {nL : Nat} (hml : c.maxLocals = nL) (hsz0 : ls.size = nL) {own : String} {index : Nat} (hts : ∀ w ∈ lw_all, w.before args s = true) (hown : s.vm.findClass own = some m.cls) (hlink : Cond.methodLink own index arraycopyName ∈ lw_all) (hnat : Cond.native arraycopyName ∈ lw_all) (hstat : Cond.static arraycopyName ∈ lw_all) (hini : Cond.initialized "java/lang/System" ∈ lw_all)
    (hK : kK D s) {a0 n0 n1 : Nat} {f g : Nat → Int} (hA0 : kAb D H a0 n0 f) (hA : kAb D H a n1 g) (hS0 : va_S A H0 H locs) (hAa : A a) (hn31 : n0 < 100000 ∧ n1 < 100000) {w : Int} {wn : Nat} (e3 : w = (wn : Int)) (h4 : wn ≤ n0) (h5 : wn ≤ n1) (hel : ∀ i : Nat, i < wn → 0 ≤ f i ∧ f i < 128)
    (hfr : 1 ≤ R.frames) (hlo : (rest.map fun v => v.category).sum + (nativeFrameWords "java/lang/System" "arraycopy" 5 + 11) ≤ R.locals) (dd : decode cc pc = .ok (.invokestatic index, 3))
    (kk : ∀ (H1 : Heap) (locs1 : List Loc), kAb D H1 a n1 (fun j => if j < wn then f j else g j) → kUp H a H1 → va_S A H0 H1 locs1 → W p l e R s m args below meth c H1 locs1 cells slots Q (F0 m (pc + 3) ls rest)) : W p l e R s m args below meth c H locs cells slots Q (F0 m pc ls (.int (kI w) :: .int (kI 0) :: .ref a :: .int (kI 0) :: .ref a0 :: rest)) := by
  have i1 : (kI 0).toInt = 0 := by decide
  have i3 : (kI w).toInt = (wn : Int) := by rw [kI_toInt (by omega) (by omega)]; exact e3
  have c1 : (kI 0).toNatClampNeg = 0 := by decide
  have c3 : (kI w).toNatClampNeg = wn := kI_cl e3 (by omega)
  have ng : ∀ z : Int, 0 ≤ z → z < 2147483648 → ¬ kI z < 0 := fun z h1 h2 => by rw [kI_0, kI_lt (by omega) (by omega) (by omega) (by omega)]; omega
  have hc0 : H[a0]? = some (arrV (D.2.1 1) n0 (fun j => .int (kI (f j)))) := hA0
  have hc1 : H[a]? = some (arrV (D.2.1 1) n1 (fun j => .int (kI (g j)))) := hA
  intro T hT X
  obtain ⟨-, k0, hk0, cm0, hkk0⟩ := (hK.va.2 1 _ rfl).1 n0 (fun j => .int (kI (f j)))
  obtain ⟨-, k1, hk1, cm1, hkk1⟩ := (hK.va.2 1 _ rfl).1 n1 (fun j => .int (kI (g j)))
  obtain ⟨vm9, X9, step⟩ := X.arraycopy hx hown (hts _ hlink) (hts _ hnat) (hts _ hstat) (hts _ hini) (src := a0) (dst := a) (cs := arrV (D.2.1 1) n0 (fun j => .int (kI (f j)))) (cd := arrV (D.2.1 1) n1 (fun j => .int (kI (g j)))) (srcPos := kI 0) (destPos := kI 0) (n := kI w) (by rw [hT]; exact hc0) (by rw [hT]; exact hc1)
    (fun _ h => by cases h) (fun _ h => by cases h) (fun h => by cases h) (fun h => by cases h) hk0 hk1 hkk0 hkk1 rfl (ng _ (by omega) (by omega)) (ng _ (by omega) (by omega)) (ng _ (by omega) (by omega))
    (by rw [i1, i3, arrV_size]; omega) (by rw [i1, i3, arrV_size]; omega)
    (fun vm1 hal i hi => by
      rw [c3] at hi
      have e9 : (arrV (D.2.1 1) n0 (fun j => .int (kI (f j)))).slots.getD ((kI 0).toNatClampNeg + i) .null = .int (kI (f i)) := by
        rw [c1, Nat.zero_add, Array.getD_eq_getD_getElem?, arrV_read _ _ (by omega)]
        rfl
      rw [e9]
      exact ⟨b8_lift (P := fun z => fits .byte (.int (kI z)) = true) b8_fit (hel i hi).1 (hel i hi).2, trivial⟩)
    (g := F0 m pc ls (.int (kI w) :: .int (kI 0) :: .ref a :: .int (kI 0) :: .ref a0 :: rest)) rfl (by rw [hml]; exact hsz0) (rest := rest) rfl (by rw [hb]; exact dd) hfr (by show 2 * 0 + _ + _ ≤ _; omega)
  have e8 : copied (arrV (D.2.1 1) n0 (fun j => .int (kI (f j)))) (arrV (D.2.1 1) n1 (fun j => .int (kI (g j)))) (kI 0) (kI 0) (kI w) = arrV (D.2.1 1) n1 (fun j => .int (kI (if j < wn then f j else g j))) := by
    unfold copied
    rw [c1, c3]
    have := va_copied (fun z => Value.int (kI z)) (D.2.1 1) (D.2.1 1) f g (sp := 0) (dp := 0) (n := wn) (n0 := n0) (n1 := n1) (by omega)
    refine this.trans ?_
    congr 1
    funext j
    unfold va_cpy
    by_cases h : j < wn
    · rw [if_pos ⟨Nat.zero_le _, by omega⟩, if_pos h]; simp
    · rw [if_neg (by omega), if_neg h]
  rw [e8] at X9 step
  have hl : a < H.size := (Array.getElem?_eq_some_iff.mp hc1).1
  have hheap : ((T.setVm vm9).setCell a (arrV (D.2.1 1) n1 (fun j => .int (kI (if j < wn then f j else g j))))).heap = H.setIfInBounds a (arrV (D.2.1 1) n1 (fun j => .int (kI (if j < wn then f j else g j)))) := by rw [← hT]; rfl
  have oq : ∀ q : Nat, q ≠ a → (H.setIfInBounds a (arrV (D.2.1 1) n1 (fun j => .int (kI (if j < wn then f j else g j)))))[q]? = H[q]? := fun q hq => by simp [Array.getElem?_setIfInBounds, Ne.symm hq]
  obtain ⟨t, a1, b1⟩ := kk _ _ (show (H.setIfInBounds a _)[a]? = some _ by simp [Array.getElem?_setIfInBounds, hl]; rfl) ⟨by simp, oq⟩ ⟨by simp; exact hS0.1, fun q g1 g2 => by
      rw [oq q (fun e => g2 (by rw [e]; exact hAa))]
      exact hS0.2.1 q g1 g2, fun q hq => by
      rcases List.mem_append.mp hq with h | h
      · exact hS0.2.2 q h
      · obtain ⟨z, -, hz⟩ := List.mem_map.mp h
        rw [← hz]
        exact hAa⟩ _ hheap X9
  exact ⟨t, step t a1, b1⟩
end KX9
section KXP
variable {p : Program} {l : Launch} {e : Env} {R : Room} {s : State} {m : MethodId} {args : Array Value} {below : List Frame} {meth : Method} {c : Code} {H : Heap} {locs : List Loc} {cells slots : Nat}
theorem va_cwP {own : String} {index maxL mc ms : Nat} {y : MethodName} {bytes : ByteArray} {ret : Option FieldType} {Ts ws ws' : List Cond} {rm : Room} (n : Nat) (ht : ∀ w ∈ Ts, w.before args s = true) (hT : GoodIn Ts ws) (hw : ws = Cond.code y bytes maxL ret :: ws') (hrc : rm.cells = mc) (hrs : rm.slots = ms) (hini : (Cond.initialized y.cls).before args s = true) (hlink : (Cond.methodLink own index y).before args s = true)
    (hd : y.cls ≠ "java/lang/invoke/MethodHandle" ∧ y.cls ≠ "java/lang/invoke/VarHandle" ∧ (parseMethodDescriptor y.desc).map (fun d => d.parameters.length) = some n) (hR : rm.frames + 1 ≤ R.frames ∧ 8 + (maxL + 11) + rm.locals ≤ R.locals) : CallB R s args own index y bytes maxL ret ws rm mc ms n := by
  have hc : Cond.code y bytes maxL ret ∈ ws := by rw [hw]; exact List.mem_cons_self
  refine ⟨hrc, hrs, hR.1, hR.2, pay_in ht hT, hc, ht _ (hT _ hc).1, hini, ⟨hd.1, hd.2.1⟩, fun sig h => ?_, hlink⟩
  have h2 := hd.2.2
  rw [h] at h2
  exact (Option.some.inj h2).symm
theorem va_runP {y y' : MethodName} {C' : String} {bytes cc : ByteArray} {maxL nL mc ms n index : Nat} {ret : Option FieldType} {ws : List Cond} {rm : Room} {Pc : Array Value → State → Prop} {Qc : Array Value → State → Outcome → State → Prop} {free : Addr → Prop} {Ts : List Cond} {own C : String} {b : Addr} {As rest : List Value} {g : JFrame}
    (S : CallFix p m c cc nL s args Ts own) (hM : Met l y ws rm Pc Qc mc ms free) (cw : CallB R s args own index y bytes maxL ret ws rm mc ms n) (hin : (Cond.instanceMethod y).before args s = true) (hpriv : va_Nw (.privateMethod y) s) (hs' : (Cond.selects C' y' y').before args s = true) (hcl : y'.cls = y.cls) (hp : PreV s H C b Pc As)
    (hg : g.method = m) (hn : As.length = n) (hsize : g.locals.size = nL) (hstack : g.stack = As.reverse ++ .ref b :: rest) (hW : 2 * g.monitorRoom + (rest.map fun v => v.category).sum ≤ 8) (hdg : decode cc g.pc = .ok (.invokevirtual index, 3)) (hf : cells + mc ≤ R.cells ∧ slots + ms ≤ R.slots) :
    va_Run p l e R s m args below meth c H locs cells slots mc ms g rest (Qc (Value.ref b :: As).toArray) (free) := by
  have hK : Back l R p e below s args y 3 8 (PreOf R mc ms Pc) (PostOf Qc mc ms free) := callBack cw hM hp.1
  obtain ⟨-, -, -, -, -, -, hcode, -, hy, hlen, hl⟩ := cw
  obtain ⟨hx, hb, hml, ho, -⟩ := S
  obtain ⟨-, ⟨cellB, hcB, hoB, hclB⟩, hPc⟩ := hp
  have hpr : s.PrivateAt y := Cond.privateMethod_at hpriv
  have hsel : (Cond.selects y.cls y y).before args s = true := by
    obtain ⟨c2, r2, m2, -, -, q3, -, kP, hkP, hkPi⟩ := Cond.selects_spec hs'
    exact selects_self_of_private (by rw [← hcl]; exact findClass_of_methodNamed q3) hkP hkPi hpr hin hy
  intro T hT X
  obtain ⟨v, vm₁, ⟨U', l2, c2, s2⟩, hW₁, X', ⟨g', mk, t, L, e1, e2, hq, h1, hL, h2, h3⟩, st⟩ := X.privateBack hx (bytes := bytes) (maxL := maxL) (ret := ret) ho hl hin hsel hpr hcode hy hK hg (hsize.trans hml.symm) (s₀ := T.setTop g) (Steps.refl _) (a := b) (cell := cellB) (by rw [hT]; exact hcB) (fun q h => by rw [h] at hoB; cases hoB) (argsL := As) (rest := rest) (fun sig h => hn.trans (hlen sig h)) hstack hW (by rw [hb]; exact hdg)
    (fun vm₁ hW₁ => ⟨hf.1, hf.2, hPc (T.setVm vm₁) hT hW₁⟩)
  dsimp only [Pt.U, Pt.locs, Pt.cells, Pt.slots] at X' e1 e2 h1 h2 h3 st
  subst h1; subst h2; subst h3
  exact ⟨v, (T.setVm vm₁).calling g' mk (Value.ref b :: As).toArray, t, U', L, hT, X', hL, e1, e2, hq, fun target ht => st.trans ht⟩
end KXP

