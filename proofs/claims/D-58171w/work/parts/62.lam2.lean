/-! LAMBDAS 2: the call of a made object -/
section KLM2
variable {p : Program} {l : Launch} {e : Env} {R : Room} {s : State} {m : MethodId} {args : Array Value} {below : List Frame} {meth : Method} {c : Code} {H : Heap} {locs : List Loc} {cells slots : Nat} {Q : State → Prop}
variable {cc : ByteArray} {pc : Nat} {ls : Array Slot} {rest : List Value} {D : kG} {A : Nat → Prop} {a : Nat} {H0 : Heap}
theorem lm_weaken {tb : Tables} {e : Env} {mid below : List Frame} {a b : State} (h : Steps tb e (mid ++ below) a b) : Steps tb e below a b := by
  obtain ⟨n, hn, w⟩ := h
  exact ⟨n, hn, fun k hk => (w k hk).weaken⟩
theorem kl_push {R' : Room} {s' U : State} {mk : MethodId} {a' : Array Value} {below' : List Frame} {methk : Method} {ck : Code} (Y : Stand p l e R' s' mk a' below' methk ck U [] 0 0) (hx : p.tables.exec = Jvm.exec) {bytes : ByteArray} (hbytes : ck.code = bytes) {fls : Array Slot} (hl0 : fls[0]? = some (.val (.ref a))) {cell : Cell} (hcell : U.heap[a]? = some cell) (hknown : cell.vm ≠ .unknown) :
    ∀ (fs : List (Nat × Nat)) (vs : List Value) (j : Nat), vs.length = fs.length → (∀ (i : Nat) (q : Nat × Nat), fs[i]? = some q → decode bytes (4 * (j + i)) = .ok (.aload_n 0, 1) ∧ decode bytes (4 * (j + i) + 1) = .ok (.getfield q.1, 3) ∧ ∃ (f : Field) (v : Value), U.vm.fieldReady mk.cls q.1 mk.cls f ∧ f.isStatic = false ∧ cell.slots[f.slot]? = some v ∧ vs[i]? = some v) →
      ∀ (st : List Value) (target : State), Steps p.tables e below' (U.setTop { method := mk, pc := 4 * (j + fs.length), locals := fls, stack := vs.reverse ++ st, locked := none }) target → Steps p.tables e below' (U.setTop { method := mk, pc := 4 * j, locals := fls, stack := st, locked := none }) target := by
  intro fs
  induction fs with
  | nil => intro vs j hl _ st target h; cases vs with
    | nil => exact h
    | cons v vs => cases hl
  | cons q fs ih => intro vs j hl hq st target h; cases vs with
    | nil => cases hl
    | cons v vs =>
      obtain ⟨d0, d1, f, v', hf, hfs, hsl, hv⟩ := hq 0 q rfl
      have hv' : v = v' := Option.some.inj hv
      subst hv'
      simp only [Nat.add_zero] at d0 d1
      have hs : U.topJava?.isSome := Y.here.top
      have step := ih vs (j + 1) (by simpa using hl) (fun i q' hi => by
        have := hq (i + 1) q' hi
        rw [show j + (i + 1) = j + 1 + i by omega] at this
        exact this) (v :: st) target (by
        rw [show j + 1 + fs.length = j + (q :: fs).length by rw [List.length_cons]; omega]
        rw [List.reverse_cons, List.append_assoc] at h
        exact h)
      jvm_step Y.here [hx, hbytes, d0, hl0, Value.isRef]
      jvm_step Y.here [hx, hbytes, d1, getfield.wp_ready (e := e) (s := U) (c := mk.cls) (field := f) (a := a) (rest := st) (cell := cell) (v := v)
        (f := { method := mk, pc := 4 * j + 1, locals := fls, stack := .ref a :: st, locked := none }) hs hf hfs rfl hcell hknown hsl]
      exact step
theorem lm_obj2 {args : Array Value} {vm₁ : Vm} (hts : ∀ w ∈ lw_all, w.before args s = true) (hW : s.WarmedH vm₁) : ∀ o ok, vm₁.findClass "java/lang/Object" = some o → vm₁.classes[o]? = some ok → ok.instanceTypes.size = 0 := by
  intro o ok h1 h2
  obtain ⟨c, k, hc, hk, -, -, -, hs⟩ := Cond.instantiable_spec (hts _ q2703)
  rw [hW.alike.findClass] at h1
  cases h1.symm.trans hc
  obtain ⟨k', hk', he⟩ := hW.alike.2.2 _ _ hk
  cases h2.symm.trans hk'
  rw [he]; exact hs

theorem kl_S0 {own : String} {nL : Nat} (S : CallFix p m c cc nL s args lw_all own) (hK : kK D s) (hS : va_S A s.heap H locs) (hB : ∀ q, A q → kBase D ≤ q) (hlk : meth.locks = false) {i pcs idx index count : Nat} {xs xI y : MethodName} {σ : Lambda.Shape} (hq : kLmL[i]? = some (xs, pcs, idx, σ)) {caller : String} (hcl : xs.cls = caller) {bytes ybytes : ByteArray} {iM ciM ntM cnM maxL mc ms : Nat} {fs : List (Nat × Nat)} (ok : lm_ok σ caller bytes 1 iM ciM ntM cnM fs) (hI : xI ∈ kIfL) (hxI : xI = ⟨σ.iface, σ.name, σ.sam.toString⟩) (hyn : y = ⟨σ.implClass, σ.implName, σ.implDesc.toString⟩) (hyMH : y.cls ≠ "java/lang/invoke/MethodHandle" ∧ y.cls ≠ "java/lang/invoke/VarHandle") (hitf0 : σ.implItf = false) (hnK : plainName (caller ++ "$$Lambda") = true)
    {vals : List Value} (hlm : kLm D H a i vals) (hlen : vals.length = fs.length) {ws ws' : List Cond} {rm : Room} {Qc : Array Value → State → Outcome → State → Prop} {free : Addr → Prop} (hM : Met l y ws rm (kPre D H (vals)) Qc mc ms free) (hw : ws = Cond.code y ybytes maxL (some .boolean) :: ws') (hG : GoodIn lw_all ws) (hrc : rm.cells = mc) (hrs : rm.slots = ms) (hini : Cond.initialized y.cls ∈ lw_all) (hst : Cond.static y ∈ lw_all) (hyd : (parseMethodDescriptor y.desc).map (fun d => d.parameters.length) = some ((vals)).length) (hlink : Cond.methodLink own index xI ∈ lw_all) (hxd : (parseMethodDescriptor xI.desc).map (fun d => d.parameters.length) = some 0)
    (hret : ∀ st v t, Qc (vals).toArray st (.returned v) t → ∃ bo : Bool, v = some (.int (kI (kb bo)))) (dk : ∀ (j : Nat) (q : Nat × Nat), fs[j]? = some q → decode bytes (4 * j) = .ok (.aload_n 0, 1) ∧ decode bytes (4 * j + 1) = .ok (.getfield q.1, 3)) (di : decode bytes (4 * fs.length + 0) = .ok (.invokestatic iM, 3)) (dr : decode bytes (4 * fs.length + 0 + 3) = .ok (.ireturn, 1))
    (hcat : (([] : List Value).map fun v => v.category).sum ≤ 8) (hsz0 : ls.size = nL) (hW : (rest.map fun v => v.category).sum ≤ 8) (d : decode cc pc = .ok (.invokeinterface index count, 5)) (hf : cells + mc ≤ R.cells ∧ slots + ms ≤ R.slots) (hfr : rm.frames + 2 ≤ R.frames) (hlo : 8 + (1 + 11) + (8 + (maxL + 11) + rm.locals) ≤ R.locals) :
    va_Run5 p l e R s m args below meth c H locs cells slots mc ms (F0 m pc ls (.ref a :: rest)) rest (Qc (vals).toArray) free := by
  obtain ⟨hx, hb, hml, hown, hts⟩ := S
  obtain ⟨⟨cl9, sl9, mo9, ha9, vm9⟩, hlm, hce1, hce2, hce3⟩ := hlm
  dsimp only at hce1 hce2 hce3
  subst hce1 hce2 hce3
  try simp only [Nat.add_zero] at di dr
  obtain ⟨m', k, cf, i0, p0, l0, hm, hk, hcf, hsh, hfind, hmade, hcall, hl⟩ := hK.lm hq
  obtain ⟨k2, hk2, hname⟩ := className_of_methodNamed hm
  cases hk.symm.trans hk2
  obtain ⟨kc, tk, file, methk, ck, toy, t, hkc, hkind, hkn, hfile, hpool, hmk, hckK, hbytes, hnl, hlkK, hfl, hretk, htoy, htk, hitf, hlook, hready, hclsR, htys, hfld⟩ := lm_facts ok hk (hname.trans hcl) hmade (lm_obj hts)
  obtain ⟨hdecl, hface⟩ := hK.ifc hI
  obtain ⟨r0, r, hn, hrm, hstR, hsigR⟩ := Cond.declares_spec hdecl
  obtain ⟨cL, kL, r1, hcL, hkL, hiL, hfoundL, hn1⟩ := Cond.interfaceMethod_spec hface
  cases hn.symm.trans hn1
  have hr0cls : r0.cls = cL := Option.some.inj ((findClass_of_methodNamed hn).symm.trans hcL)
  obtain ⟨hnameR, hdescR⟩ := name_of_methodNamed hn hrm
  obtain ⟨-, -, -, -, -, -, -, iface', -, -, -, -, found, -, -, -, -, -, hi', -, -, -, -, -, -, hfound', -, -, -, -, -, -, -, -, -, -, hselK⟩ := Lambda.isMade_spec hmade
  have hcL2 : s.vm.findClass σ.iface = some cL := by rw [hxI] at hcL; exact hcL
  cases hcL2.symm.trans hi'
  have hfr0 : found = r0 := by
    have h1 := hfoundL
    rw [hxI] at h1
    simp only [State.methodFound?, hcL2, hkL, hiL, Option.bind_eq_bind, Option.bind_some] at h1
    have h2 : ((methodIn cL σ.name σ.sam.toString true none).ask { classPath := fun _ => none } s.vm).1 = .ok found := hfound'
    rw [h2] at h1
    exact Option.some.inj h1
  subst hfr0
  obtain ⟨i2, hi2, hasg, hway⟩ := State.lambdaCallable_spec hcall
  cases hcL2.symm.trans hi2
  have hcode : (Cond.code y ybytes maxL (some .boolean)).before args s = true := hts _ (hG _ (by rw [hw]; exact List.mem_cons_self)).1
  obtain ⟨mT, hmT⟩ := Cond.named_of_code (x := y) hcode
  obtain ⟨methT, cT, hmethT, hcT, hbytesT, hlocT, hretT, hlocksT, -, hsigT⟩ := Cond.code_spec hmT hcode
  obtain ⟨kT, hkT, hnameT⟩ := className_of_methodNamed hmT
  have hfT : s.vm.findClass y.cls = some mT.cls := findClass_of_methodNamed hmT
  have hinitK : kT.init = .initialized := Cond.initialized_spec hfT hkT (hts _ hini)
  intro T hT X
  have hstackA : (F0 m pc ls (.ref a :: rest)).stack = ([] : List Value).reverse ++ .ref a :: rest := rfl
  obtain ⟨vm₁, X₁, hstep₁⟩ := X.invokeinterface hx hown (hts _ hlink) hn hrm hstR (by rw [hr0cls]; exact hkL) hiL (kIfL_ok _ hI) (a := a) (cell := { cls := D.2.2.2 (400 + i), slots := vals.toArray, monitor := mo9, hash := ha9, vm := .none }) (kcell := kc) (by rw [hT]; exact hlm) (fun z h => by cases h) hkc (by rw [hr0cls]; exact hasg)
    (m' := ⟨D.2.2.2 (400 + i), 1⟩) (meth' := methk) (by rw [Launch.admits_selectMethod X.admits]; exact hselK) hmk (by rw [hnameR, hdescR, hxI]; exact hway) (by rw [hfl]; decide) (by simp [Method.isAbstract, hfl, hasFlag, Acc.abstract])
    (g := F0 m pc ls (.ref a :: rest)) rfl (argsL := []) (rest := rest) (by rw [hsigR] at hxd; simpa using hxd.symm) hstackA (by rw [hb]; exact d)
  have hW₁ : s.WarmedH vm₁ := X₁.warmed
  obtain ⟨k₁, hk₁, he₁⟩ := hW₁.alike.2.2 _ _ hk
  have hname₁ : k₁.name = caller := by rw [he₁]; exact hname.trans hcl
  obtain ⟨kc₁, tk₁, file₁, methk₁, ck₁, toy₁, t₁, hkc₁, hkind₁, hkn₁, hfile₁, hpool₁, hmk₁, hckK₁, hbytes₁, hnl₁, hlk₁, hfl₁, hretk₁, htoy₁, htk₁, hitf₁, hlook₁, hready₁, hclsR₁, htys₁, hfld₁⟩ := lm_facts ok hk₁ hname₁ (Lambda.isMade_warmer hW₁ hmade) (lm_obj2 hts hW₁)
  have hfT₁ : vm₁.findClass y.cls = some mT.cls := by rw [hW₁.alike.findClass]; exact hfT
  have htoyT : toy₁ = mT.cls := by rw [hyn] at hfT₁; exact Option.some.inj (htoy₁.symm.trans hfT₁)
  subst htoyT
  have ht₁ : t₁ = mT := by
    have h1 : (s.setVm vm₁).methodFound? y.cls y.name y.desc = some mT := by rw [State.methodFound?_setVm hW₁.alike]; exact State.methodFound?_of_named hmT hyMH
    rw [hyn] at h1 hfT₁
    simp only [State.methodFound?, State.vm_setVm, hfT₁, htk₁, Option.bind_eq_bind, Option.bind_some] at h1
    have h2 : ((methodIn mT.cls σ.implName σ.implDesc.toString tk₁.isInterface none).ask { classPath := fun _ => none } vm₁).1 = .ok t₁ := hlook₁
    rw [h2] at h1
    exact Option.some.inj h1
  subst ht₁
  have hmethT₁ : vm₁.method? t₁ = some methT := by rw [hW₁.alike.method?]; exact hmethT
  obtain ⟨kT₁, hkT₁, heT₁⟩ := hW₁.alike.2.2 _ _ hkT
  cases htk₁.symm.trans hkT₁
  have hnm : tk₁.name ≠ "java/lang/invoke/MethodHandle" ∧ tk₁.name ≠ "java/lang/invoke/VarHandle" := by
    have : tk₁.name = y.cls := by rw [heT₁]; exact hnameT
    rw [this]; exact hyMH
  have hsp : ∀ z : Method, signaturePolymorphic tk₁ z = false := fun z => by simp [signaturePolymorphic, hnm.1, hnm.2]
  obtain ⟨bb, hmem⟩ := memberRef_ask' (e := e) (vm := vm₁) (d := D.2.2.2 (400 + i)) (index := iM) hkc₁ hfile₁ (Or.inl (by rw [hpool₁]; exact ok.2.2.2.2.2.1.1)) (by rw [hpool₁]; exact ok.2.2.2.2.2.1.2.2)
  have hpk : (T.setVm vm₁).plainMethod ⟨D.2.2.2 (400 + i), 1⟩ := State.plainMethod.of_name (fun k' hk' => by cases hkc₁.symm.trans hk'; rw [hkn₁]; exact hnK)
  have hsz : (F0 m pc ls rest).locals.size = c.maxLocals := hsz0.trans hml.symm
  have hdg : decode c.code (F0 m pc ls rest).pc = .ok (.invokeinterface index count, 5) := by rw [hb]; exact d
  obtain ⟨Y₀, hin⟩ := X₁.into (g := F0 m pc ls rest) rfl hsz hdg (Value.ref a :: []).toArray (R' := { frames := rm.frames + 1, cells := mc, slots := ms, locals := 8 + (maxL + 11) + rm.locals }) hmk₁ hckK₁ hlk₁ hpk
    (by show rm.frames + 1 + 1 ≤ R.frames; omega) (by rw [hnl₁]; show 2 * 0 + (rest.map fun v => v.category).sum + (1 + 11) + (8 + (maxL + 11) + rm.locals) ≤ R.locals; omega) hf.1 hf.2
  generalize hU : ((T.setVm vm₁).setTop (F0 m pc ls rest)).pushFrame (.java (entryFrame ⟨D.2.2.2 (400 + i), 1⟩ (Value.ref a :: []).toArray ck₁.maxLocals)) = U at Y₀ hin
  have hvm : U.vm = vm₁ := by rw [← hU]; rfl
  have hheap : U.heap = H := by rw [← hU]; exact hT
  have hBack : Back l { frames := rm.frames + 1, cells := mc, slots := ms, locals := 8 + (maxL + 11) + rm.locals } p e (.java (F0 m pc ls rest) :: below) ((T.setVm vm₁).calling (F0 m pc ls rest) ⟨D.2.2.2 (400 + i), 1⟩ (Value.ref a :: []).toArray) (Value.ref a :: []).toArray y 3 8 (PreOf { frames := rm.frames + 1, cells := mc, slots := ms, locals := 8 + (maxL + 11) + rm.locals } mc ms (kPre D H (vals))) (PostOf Qc mc ms free) :=
    back_of (bytes := ybytes) (maxL := maxL) (ret := some .boolean) hM kPre.blind hrc hrs (Nat.le_refl _) (Nat.le_refl _) (fun w hw' a' V hV => pay_in hts hG w hw' a' V (State.WarmedH.trans X₁.warmed hV)) (by rw [hw]; exact List.mem_cons_self) (fun a' V hV => word_at (State.WarmedH.trans X₁.warmed hV) (Or.inl (by first | rfl | simp [Cond.onTables, Cond.keeps, Cond.steady])) (hts _ hini))
  have hs : U.topJava?.isSome := Y₀.here.top
  obtain ⟨v, ⟨U', l2, c2, s2⟩, Y', ⟨g2, mk2, tt, L, e1, e2, hqc, h1, hL, h2, h3⟩, hst9⟩ := hBack _ _ _ ⟨U, [], 0, 0⟩ { method := ⟨D.2.2.2 (400 + i), 1⟩, pc := 4 * fs.length, locals := #[.val (.ref a)], stack := [], locked := none } (.invokestatic iM) t₁ (vals).toArray Y₀ rfl (by rw [hnl₁]; rfl) (by rw [hbytes₁]; exact di) (by show 2 * 0 + 0 ≤ 8; omega)
    (by have h9 := X₁.named hmT; rw [← hU]; exact h9) ⟨by show 0 + mc ≤ mc; omega, by show 0 + ms ≤ ms; omega, rfl, hheap, hK.moved hS.toFr hB hheap (by rw [hvm]; exact hW₁)⟩
  dsimp only [Pt.U, Pt.locs, Pt.cells, Pt.slots] at Y' e1 e2 h1 h2 h3 hst9
  rw [show l2 = L by simpa using h1, h2, h3] at Y'
  obtain ⟨bo, hbo⟩ := hret _ _ _ hqc
  subst hbo
  obtain ⟨fs9, hleave, -, hended, hWe, hsame⟩ := Y'.leave (v := some (.int (kI (kb bo)))) (fun h => by rw [hretk₁] at h; cases h) hlk₁
  obtain ⟨T', X', hW', -, ht⟩ := X₁.outOf (g := F0 m pc ls rest) rfl hdg hended hWe hsame
  have hTh : T'.heap = U'.heap := by
    have := congrArg State.heap ht
    exact this.symm
  have hTv : T'.vm = U'.vm := by
    have := congrArg State.vm ht
    exact this.symm
  refine ⟨some (.int (kI (kb bo))), U.calling g2 mk2 (vals).toArray, tt, T', L, hheap, by simpa using X', hL, hTh.trans e1, hTv.trans e2, hqc, fun target hgo => ?_⟩
  refine hstep₁ _ fun acts => ?_
  show Steps p.tables e below (doInvoke e ((T.setVm vm₁).setTop (F0 m pc ls rest)) acts ⟨D.2.2.2 (400 + i), 1⟩ (Value.ref a :: []).toArray).1 target
  rw [hin acts]
  refine Steps.trans ?_ hgo
  have ht' : T'.setTop { F0 m pc ls (.ref a :: rest) with pc := pc + 5, stack := (some (Value.int (kI (kb bo)))).toList ++ rest } = U'.setFrames fs9 := ht.symm
  show Steps p.tables e below _ (T'.setTop { F0 m pc ls (.ref a :: rest) with pc := pc + 5, stack := (some (Value.int (kI (kb bo)))).toList ++ rest })
  rw [ht']
  refine lm_weaken (mid := [.java (F0 m pc ls rest)]) ?_
  have hloc : entryFrame ⟨D.2.2.2 (400 + i), 1⟩ (Value.ref a :: []).toArray ck₁.maxLocals = { method := ⟨D.2.2.2 (400 + i), 1⟩, pc := 0, locals := #[.val (.ref a)], stack := [], locked := none } := by rw [hnl₁]; rfl
  rw [hloc]
  refine kl_push Y₀ hx hbytes₁ (a := a) rfl (cell := { cls := D.2.2.2 (400 + i), slots := vals.toArray, monitor := mo9, hash := ha9, vm := .none }) (by rw [hheap]; exact hlm) (fun h => by cases h) fs vals 0 hlen (fun j q hj => by
    have hd := dk j q hj
    obtain ⟨f, f1, f2, f3⟩ := hfld₁ j q hj
    have hjl : j < vals.length := by rw [hlen]; exact (List.getElem?_eq_some_iff.mp hj).1
    rw [show 0 + j = j by omega]
    exact ⟨hd.1, hd.2, f, (vals)[j], by rw [hvm]; exact f1, f2, by rw [f3]; simp [hjl], List.getElem?_eq_getElem hjl⟩) [] _ ?_
  rw [show 0 + fs.length = fs.length by omega, List.append_nil]
  have hstT : methT.isStatic = true := Cond.static_spec hmT hmethT (hts _ hst)
  have hpar : (vals).length = methT.sig.parameters.length := by rw [hsigT] at hyd; simpa using hyd.symm
  jvm_step Y₀.here [hx, hbytes₁, di, invokestatic.wp_ready (e := e) (s := U) (m := t₁) (k := tk₁) (meth := methT) (args := (vals)) (rest := [])
    (f := { method := ⟨D.2.2.2 (400 + i), 1⟩, pc := 4 * fs.length, locals := #[.val (.ref a)], stack := vals.reverse, locked := none }) hs ⟨ciM, _, _, bb, t₁.cls, tk₁, by rw [hvm]; exact hmem, by rw [hvm]; exact hclsR₁, by rw [hvm]; exact htk₁, by simp [hsp]⟩ (by rw [hvm]; exact hready₁) (by rw [hvm]; exact htk₁) (by rw [hvm]; exact hmethT₁) (hsp _) hstT (by rw [heT₁]; exact hinitK) hpar (by simp)]
  intro acts'
  rw [doInvoke_state]
  refine hst9.trans ?_
  jvm_step Y'.here [Y'.here.top, hx, hbytes₁, dr, Y'.method', hretk₁, kb_narZ]
  intro acts''
  rw [hleave { method := ⟨D.2.2.2 (400 + i), 1⟩, pc := 4 * fs.length + 3, locals := #[.val (.ref a)], stack := [], locked := none } acts'' rfl rfl rfl]
  exact Steps.refl _
theorem kl_S1 {own : String} {nL : Nat} (S : CallFix p m c cc nL s args lw_all own) (hK : kK D s) (hS : va_S A s.heap H locs) (hB : ∀ q, A q → kBase D ≤ q) (hlk : meth.locks = false) {i pcs idx index count : Nat} {xs xI y : MethodName} {σ : Lambda.Shape} (hq : kLmL[i]? = some (xs, pcs, idx, σ)) {caller : String} (hcl : xs.cls = caller) {bytes ybytes : ByteArray} {iM ciM ntM cnM maxL mc ms : Nat} {fs : List (Nat × Nat)} (ok : lm_ok σ caller bytes 2 iM ciM ntM cnM fs) (hI : xI ∈ kIfL) (hxI : xI = ⟨σ.iface, σ.name, σ.sam.toString⟩) (hyn : y = ⟨σ.implClass, σ.implName, σ.implDesc.toString⟩) (hyMH : y.cls ≠ "java/lang/invoke/MethodHandle" ∧ y.cls ≠ "java/lang/invoke/VarHandle") (hitf0 : σ.implItf = false) (hnK : plainName (caller ++ "$$Lambda") = true)
    {vals : List Value} (hlm : kLm D H a i vals) (hlen : vals.length = fs.length) {xa : Nat} {ws ws' : List Cond} {rm : Room} {Qc : Array Value → State → Outcome → State → Prop} {free : Addr → Prop} (hM : Met l y ws rm (kPre D H (vals ++ [Value.ref xa])) Qc mc ms free) (hw : ws = Cond.code y ybytes maxL (some .boolean) :: ws') (hG : GoodIn lw_all ws) (hrc : rm.cells = mc) (hrs : rm.slots = ms) (hini : Cond.initialized y.cls ∈ lw_all) (hst : Cond.static y ∈ lw_all) (hyd : (parseMethodDescriptor y.desc).map (fun d => d.parameters.length) = some (vals ++ [Value.ref xa]).length) (hlink : Cond.methodLink own index xI ∈ lw_all) (hxd : (parseMethodDescriptor xI.desc).map (fun d => d.parameters.length) = some 1)
    (hret : ∀ st v t, Qc (vals ++ [Value.ref xa]).toArray st (.returned v) t → ∃ bo : Bool, v = some (.int (kI (kb bo)))) (dk : ∀ (j : Nat) (q : Nat × Nat), fs[j]? = some q → decode bytes (4 * j) = .ok (.aload_n 0, 1) ∧ decode bytes (4 * j + 1) = .ok (.getfield q.1, 3)) (da : decode bytes (4 * fs.length) = .ok (.aload_n 1, 1)) (di : decode bytes (4 * fs.length + 1) = .ok (.invokestatic iM, 3)) (dr : decode bytes (4 * fs.length + 1 + 3) = .ok (.ireturn, 1))
    (hcat : (([] : List Value).map fun v => v.category).sum ≤ 8) (hsz0 : ls.size = nL) (hW : (rest.map fun v => v.category).sum ≤ 8) (d : decode cc pc = .ok (.invokeinterface index count, 5)) (hf : cells + mc ≤ R.cells ∧ slots + ms ≤ R.slots) (hfr : rm.frames + 2 ≤ R.frames) (hlo : 8 + (2 + 11) + (8 + (maxL + 11) + rm.locals) ≤ R.locals) :
    va_Run5 p l e R s m args below meth c H locs cells slots mc ms (F0 m pc ls (.ref xa :: .ref a :: rest)) rest (Qc (vals ++ [Value.ref xa]).toArray) free := by
  obtain ⟨hx, hb, hml, hown, hts⟩ := S
  obtain ⟨⟨cl9, sl9, mo9, ha9, vm9⟩, hlm, hce1, hce2, hce3⟩ := hlm
  dsimp only at hce1 hce2 hce3
  subst hce1 hce2 hce3
  try simp only [Nat.add_zero] at di dr
  obtain ⟨m', k, cf, i0, p0, l0, hm, hk, hcf, hsh, hfind, hmade, hcall, hl⟩ := hK.lm hq
  obtain ⟨k2, hk2, hname⟩ := className_of_methodNamed hm
  cases hk.symm.trans hk2
  obtain ⟨kc, tk, file, methk, ck, toy, t, hkc, hkind, hkn, hfile, hpool, hmk, hckK, hbytes, hnl, hlkK, hfl, hretk, htoy, htk, hitf, hlook, hready, hclsR, htys, hfld⟩ := lm_facts ok hk (hname.trans hcl) hmade (lm_obj hts)
  obtain ⟨hdecl, hface⟩ := hK.ifc hI
  obtain ⟨r0, r, hn, hrm, hstR, hsigR⟩ := Cond.declares_spec hdecl
  obtain ⟨cL, kL, r1, hcL, hkL, hiL, hfoundL, hn1⟩ := Cond.interfaceMethod_spec hface
  cases hn.symm.trans hn1
  have hr0cls : r0.cls = cL := Option.some.inj ((findClass_of_methodNamed hn).symm.trans hcL)
  obtain ⟨hnameR, hdescR⟩ := name_of_methodNamed hn hrm
  obtain ⟨-, -, -, -, -, -, -, iface', -, -, -, -, found, -, -, -, -, -, hi', -, -, -, -, -, -, hfound', -, -, -, -, -, -, -, -, -, -, hselK⟩ := Lambda.isMade_spec hmade
  have hcL2 : s.vm.findClass σ.iface = some cL := by rw [hxI] at hcL; exact hcL
  cases hcL2.symm.trans hi'
  have hfr0 : found = r0 := by
    have h1 := hfoundL
    rw [hxI] at h1
    simp only [State.methodFound?, hcL2, hkL, hiL, Option.bind_eq_bind, Option.bind_some] at h1
    have h2 : ((methodIn cL σ.name σ.sam.toString true none).ask { classPath := fun _ => none } s.vm).1 = .ok found := hfound'
    rw [h2] at h1
    exact Option.some.inj h1
  subst hfr0
  obtain ⟨i2, hi2, hasg, hway⟩ := State.lambdaCallable_spec hcall
  cases hcL2.symm.trans hi2
  have hcode : (Cond.code y ybytes maxL (some .boolean)).before args s = true := hts _ (hG _ (by rw [hw]; exact List.mem_cons_self)).1
  obtain ⟨mT, hmT⟩ := Cond.named_of_code (x := y) hcode
  obtain ⟨methT, cT, hmethT, hcT, hbytesT, hlocT, hretT, hlocksT, -, hsigT⟩ := Cond.code_spec hmT hcode
  obtain ⟨kT, hkT, hnameT⟩ := className_of_methodNamed hmT
  have hfT : s.vm.findClass y.cls = some mT.cls := findClass_of_methodNamed hmT
  have hinitK : kT.init = .initialized := Cond.initialized_spec hfT hkT (hts _ hini)
  intro T hT X
  have hstackA : (F0 m pc ls (.ref xa :: .ref a :: rest)).stack = ([Value.ref xa] : List Value).reverse ++ .ref a :: rest := rfl
  obtain ⟨vm₁, X₁, hstep₁⟩ := X.invokeinterface hx hown (hts _ hlink) hn hrm hstR (by rw [hr0cls]; exact hkL) hiL (kIfL_ok _ hI) (a := a) (cell := { cls := D.2.2.2 (400 + i), slots := vals.toArray, monitor := mo9, hash := ha9, vm := .none }) (kcell := kc) (by rw [hT]; exact hlm) (fun z h => by cases h) hkc (by rw [hr0cls]; exact hasg)
    (m' := ⟨D.2.2.2 (400 + i), 1⟩) (meth' := methk) (by rw [Launch.admits_selectMethod X.admits]; exact hselK) hmk (by rw [hnameR, hdescR, hxI]; exact hway) (by rw [hfl]; decide) (by simp [Method.isAbstract, hfl, hasFlag, Acc.abstract])
    (g := F0 m pc ls (.ref xa :: .ref a :: rest)) rfl (argsL := [Value.ref xa]) (rest := rest) (by rw [hsigR] at hxd; simpa using hxd.symm) hstackA (by rw [hb]; exact d)
  have hW₁ : s.WarmedH vm₁ := X₁.warmed
  obtain ⟨k₁, hk₁, he₁⟩ := hW₁.alike.2.2 _ _ hk
  have hname₁ : k₁.name = caller := by rw [he₁]; exact hname.trans hcl
  obtain ⟨kc₁, tk₁, file₁, methk₁, ck₁, toy₁, t₁, hkc₁, hkind₁, hkn₁, hfile₁, hpool₁, hmk₁, hckK₁, hbytes₁, hnl₁, hlk₁, hfl₁, hretk₁, htoy₁, htk₁, hitf₁, hlook₁, hready₁, hclsR₁, htys₁, hfld₁⟩ := lm_facts ok hk₁ hname₁ (Lambda.isMade_warmer hW₁ hmade) (lm_obj2 hts hW₁)
  have hfT₁ : vm₁.findClass y.cls = some mT.cls := by rw [hW₁.alike.findClass]; exact hfT
  have htoyT : toy₁ = mT.cls := by rw [hyn] at hfT₁; exact Option.some.inj (htoy₁.symm.trans hfT₁)
  subst htoyT
  have ht₁ : t₁ = mT := by
    have h1 : (s.setVm vm₁).methodFound? y.cls y.name y.desc = some mT := by rw [State.methodFound?_setVm hW₁.alike]; exact State.methodFound?_of_named hmT hyMH
    rw [hyn] at h1 hfT₁
    simp only [State.methodFound?, State.vm_setVm, hfT₁, htk₁, Option.bind_eq_bind, Option.bind_some] at h1
    have h2 : ((methodIn mT.cls σ.implName σ.implDesc.toString tk₁.isInterface none).ask { classPath := fun _ => none } vm₁).1 = .ok t₁ := hlook₁
    rw [h2] at h1
    exact Option.some.inj h1
  subst ht₁
  have hmethT₁ : vm₁.method? t₁ = some methT := by rw [hW₁.alike.method?]; exact hmethT
  obtain ⟨kT₁, hkT₁, heT₁⟩ := hW₁.alike.2.2 _ _ hkT
  cases htk₁.symm.trans hkT₁
  have hnm : tk₁.name ≠ "java/lang/invoke/MethodHandle" ∧ tk₁.name ≠ "java/lang/invoke/VarHandle" := by
    have : tk₁.name = y.cls := by rw [heT₁]; exact hnameT
    rw [this]; exact hyMH
  have hsp : ∀ z : Method, signaturePolymorphic tk₁ z = false := fun z => by simp [signaturePolymorphic, hnm.1, hnm.2]
  obtain ⟨bb, hmem⟩ := memberRef_ask' (e := e) (vm := vm₁) (d := D.2.2.2 (400 + i)) (index := iM) hkc₁ hfile₁ (Or.inl (by rw [hpool₁]; exact ok.2.2.2.2.2.1.1)) (by rw [hpool₁]; exact ok.2.2.2.2.2.1.2.2)
  have hpk : (T.setVm vm₁).plainMethod ⟨D.2.2.2 (400 + i), 1⟩ := State.plainMethod.of_name (fun k' hk' => by cases hkc₁.symm.trans hk'; rw [hkn₁]; exact hnK)
  have hsz : (F0 m pc ls rest).locals.size = c.maxLocals := hsz0.trans hml.symm
  have hdg : decode c.code (F0 m pc ls rest).pc = .ok (.invokeinterface index count, 5) := by rw [hb]; exact d
  obtain ⟨Y₀, hin⟩ := X₁.into (g := F0 m pc ls rest) rfl hsz hdg (Value.ref a :: [Value.ref xa]).toArray (R' := { frames := rm.frames + 1, cells := mc, slots := ms, locals := 8 + (maxL + 11) + rm.locals }) hmk₁ hckK₁ hlk₁ hpk
    (by show rm.frames + 1 + 1 ≤ R.frames; omega) (by rw [hnl₁]; show 2 * 0 + (rest.map fun v => v.category).sum + (2 + 11) + (8 + (maxL + 11) + rm.locals) ≤ R.locals; omega) hf.1 hf.2
  generalize hU : ((T.setVm vm₁).setTop (F0 m pc ls rest)).pushFrame (.java (entryFrame ⟨D.2.2.2 (400 + i), 1⟩ (Value.ref a :: [Value.ref xa]).toArray ck₁.maxLocals)) = U at Y₀ hin
  have hvm : U.vm = vm₁ := by rw [← hU]; rfl
  have hheap : U.heap = H := by rw [← hU]; exact hT
  have hBack : Back l { frames := rm.frames + 1, cells := mc, slots := ms, locals := 8 + (maxL + 11) + rm.locals } p e (.java (F0 m pc ls rest) :: below) ((T.setVm vm₁).calling (F0 m pc ls rest) ⟨D.2.2.2 (400 + i), 1⟩ (Value.ref a :: [Value.ref xa]).toArray) (Value.ref a :: [Value.ref xa]).toArray y 3 8 (PreOf { frames := rm.frames + 1, cells := mc, slots := ms, locals := 8 + (maxL + 11) + rm.locals } mc ms (kPre D H (vals ++ [Value.ref xa]))) (PostOf Qc mc ms free) :=
    back_of (bytes := ybytes) (maxL := maxL) (ret := some .boolean) hM kPre.blind hrc hrs (Nat.le_refl _) (Nat.le_refl _) (fun w hw' a' V hV => pay_in hts hG w hw' a' V (State.WarmedH.trans X₁.warmed hV)) (by rw [hw]; exact List.mem_cons_self) (fun a' V hV => word_at (State.WarmedH.trans X₁.warmed hV) (Or.inl (by first | rfl | simp [Cond.onTables, Cond.keeps, Cond.steady])) (hts _ hini))
  have hs : U.topJava?.isSome := Y₀.here.top
  obtain ⟨v, ⟨U', l2, c2, s2⟩, Y', ⟨g2, mk2, tt, L, e1, e2, hqc, h1, hL, h2, h3⟩, hst9⟩ := hBack _ _ _ ⟨U, [], 0, 0⟩ { method := ⟨D.2.2.2 (400 + i), 1⟩, pc := 4 * fs.length + 1, locals := #[.val (.ref a), .val (.ref xa)], stack := [], locked := none } (.invokestatic iM) t₁ (vals ++ [Value.ref xa]).toArray Y₀ rfl (by rw [hnl₁]; rfl) (by rw [hbytes₁]; exact di) (by show 2 * 0 + 0 ≤ 8; omega)
    (by have h9 := X₁.named hmT; rw [← hU]; exact h9) ⟨by show 0 + mc ≤ mc; omega, by show 0 + ms ≤ ms; omega, rfl, hheap, hK.moved hS.toFr hB hheap (by rw [hvm]; exact hW₁)⟩
  dsimp only [Pt.U, Pt.locs, Pt.cells, Pt.slots] at Y' e1 e2 h1 h2 h3 hst9
  rw [show l2 = L by simpa using h1, h2, h3] at Y'
  obtain ⟨bo, hbo⟩ := hret _ _ _ hqc
  subst hbo
  obtain ⟨fs9, hleave, -, hended, hWe, hsame⟩ := Y'.leave (v := some (.int (kI (kb bo)))) (fun h => by rw [hretk₁] at h; cases h) hlk₁
  obtain ⟨T', X', hW', -, ht⟩ := X₁.outOf (g := F0 m pc ls rest) rfl hdg hended hWe hsame
  have hTh : T'.heap = U'.heap := by
    have := congrArg State.heap ht
    exact this.symm
  have hTv : T'.vm = U'.vm := by
    have := congrArg State.vm ht
    exact this.symm
  refine ⟨some (.int (kI (kb bo))), U.calling g2 mk2 (vals ++ [Value.ref xa]).toArray, tt, T', L, hheap, by simpa using X', hL, hTh.trans e1, hTv.trans e2, hqc, fun target hgo => ?_⟩
  refine hstep₁ _ fun acts => ?_
  show Steps p.tables e below (doInvoke e ((T.setVm vm₁).setTop (F0 m pc ls rest)) acts ⟨D.2.2.2 (400 + i), 1⟩ (Value.ref a :: [Value.ref xa]).toArray).1 target
  rw [hin acts]
  refine Steps.trans ?_ hgo
  have ht' : T'.setTop { F0 m pc ls (.ref xa :: .ref a :: rest) with pc := pc + 5, stack := (some (Value.int (kI (kb bo)))).toList ++ rest } = U'.setFrames fs9 := ht.symm
  show Steps p.tables e below _ (T'.setTop { F0 m pc ls (.ref xa :: .ref a :: rest) with pc := pc + 5, stack := (some (Value.int (kI (kb bo)))).toList ++ rest })
  rw [ht']
  refine lm_weaken (mid := [.java (F0 m pc ls rest)]) ?_
  have hloc : entryFrame ⟨D.2.2.2 (400 + i), 1⟩ (Value.ref a :: [Value.ref xa]).toArray ck₁.maxLocals = { method := ⟨D.2.2.2 (400 + i), 1⟩, pc := 0, locals := #[.val (.ref a), .val (.ref xa)], stack := [], locked := none } := by rw [hnl₁]; rfl
  rw [hloc]
  refine kl_push Y₀ hx hbytes₁ (a := a) rfl (cell := { cls := D.2.2.2 (400 + i), slots := vals.toArray, monitor := mo9, hash := ha9, vm := .none }) (by rw [hheap]; exact hlm) (fun h => by cases h) fs vals 0 hlen (fun j q hj => by
    have hd := dk j q hj
    obtain ⟨f, f1, f2, f3⟩ := hfld₁ j q hj
    have hjl : j < vals.length := by rw [hlen]; exact (List.getElem?_eq_some_iff.mp hj).1
    rw [show 0 + j = j by omega]
    exact ⟨hd.1, hd.2, f, (vals)[j], by rw [hvm]; exact f1, f2, by rw [f3]; simp [hjl], List.getElem?_eq_getElem hjl⟩) [] _ ?_
  rw [show 0 + fs.length = fs.length by omega, List.append_nil]
  jvm_step Y₀.here [hx, hbytes₁, da, Value.isRef]
  have hstT : methT.isStatic = true := Cond.static_spec hmT hmethT (hts _ hst)
  have hpar : (vals ++ [Value.ref xa] : List Value).length = methT.sig.parameters.length := by rw [hsigT] at hyd; simpa using hyd.symm
  jvm_step Y₀.here [hx, hbytes₁, di, invokestatic.wp_ready (e := e) (s := U) (m := t₁) (k := tk₁) (meth := methT) (args := vals ++ [Value.ref xa]) (rest := [])
    (f := { method := ⟨D.2.2.2 (400 + i), 1⟩, pc := 4 * fs.length + 1, locals := #[.val (.ref a), .val (.ref xa)], stack := .ref xa :: vals.reverse, locked := none }) hs ⟨ciM, _, _, bb, t₁.cls, tk₁, by rw [hvm]; exact hmem, by rw [hvm]; exact hclsR₁, by rw [hvm]; exact htk₁, by simp [hsp]⟩ (by rw [hvm]; exact hready₁) (by rw [hvm]; exact htk₁) (by rw [hvm]; exact hmethT₁) (hsp _) hstT (by rw [heT₁]; exact hinitK) hpar (by simp)]
  intro acts'
  rw [doInvoke_state]
  refine hst9.trans ?_
  jvm_step Y'.here [Y'.here.top, hx, hbytes₁, dr, Y'.method', hretk₁, kb_narZ]
  intro acts''
  rw [hleave { method := ⟨D.2.2.2 (400 + i), 1⟩, pc := 4 * fs.length + 1 + 3, locals := #[.val (.ref a), .val (.ref xa)], stack := [], locked := none } acts'' rfl rfl rfl]
  exact Steps.refl _
theorem kl_V0 {own : String} {nL : Nat} (S : CallFix p m c cc nL s args lw_all own) (hK : kK D s) (hS : va_S A s.heap H locs) (hB : ∀ q, A q → kBase D ≤ q) (hlk : meth.locks = false) {i pcs idx index count : Nat} {xs xI y : MethodName} {σ : Lambda.Shape} (hq : kLmL[i]? = some (xs, pcs, idx, σ)) {caller : String} (hcl : xs.cls = caller) {bytes ybytes : ByteArray} {iM ciM ntM cnM maxL mc ms : Nat} {fs : List (Nat × Nat)} (ok : lm_ok σ caller bytes 1 iM ciM ntM cnM fs) (hI : xI ∈ kIfL) (hxI : xI = ⟨σ.iface, σ.name, σ.sam.toString⟩) (hyn : y = ⟨σ.implClass, σ.implName, σ.implDesc.toString⟩) (hyMH : y.cls ≠ "java/lang/invoke/MethodHandle" ∧ y.cls ≠ "java/lang/invoke/VarHandle") (hitf0 : σ.implItf = false) (hnK : plainName (caller ++ "$$Lambda") = true)
    {b : Nat} {vals : List Value} (hlm : kLm D H a i (.ref b :: vals)) (hlen : (Value.ref b :: vals).length = fs.length) {ws ws' : List Cond} {rm : Room} {Qc : Array Value → State → Outcome → State → Prop} {free : Addr → Prop} (hM : Met l y ws rm (kPre D H (.ref b :: vals)) Qc mc ms free) (hw : ws = Cond.code y ybytes maxL (some .boolean) :: ws') (hG : GoodIn lw_all ws) (hrc : rm.cells = mc) (hrs : rm.slots = ms) (hini : Cond.initialized y.cls ∈ lw_all) (hinst : Cond.instanceMethod y ∈ lw_all) (hsel : Cond.selects y.cls y y ∈ lw_all) (hrecv : ∃ cellB : Cell, H[b]? = some cellB ∧ cellB.vm.isStatics = false ∧ s.vm.findClass y.cls = some cellB.cls) (hyd : (parseMethodDescriptor y.desc).map (fun d => d.parameters.length) = some vals.length) (hlink : Cond.methodLink own index xI ∈ lw_all) (hxd : (parseMethodDescriptor xI.desc).map (fun d => d.parameters.length) = some 0)
    (hret : ∀ st v t, Qc (Value.ref b :: vals).toArray st (.returned v) t → ∃ bo : Bool, v = some (.int (kI (kb bo)))) (dk : ∀ (j : Nat) (q : Nat × Nat), fs[j]? = some q → decode bytes (4 * j) = .ok (.aload_n 0, 1) ∧ decode bytes (4 * j + 1) = .ok (.getfield q.1, 3)) (di : decode bytes (4 * fs.length + 0) = .ok (.invokevirtual iM, 3)) (dr : decode bytes (4 * fs.length + 0 + 3) = .ok (.ireturn, 1))
    (hcat : (([] : List Value).map fun v => v.category).sum ≤ 8) (hsz0 : ls.size = nL) (hW : (rest.map fun v => v.category).sum ≤ 8) (d : decode cc pc = .ok (.invokeinterface index count, 5)) (hf : cells + mc ≤ R.cells ∧ slots + ms ≤ R.slots) (hfr : rm.frames + 2 ≤ R.frames) (hlo : 8 + (1 + 11) + (8 + (maxL + 11) + rm.locals) ≤ R.locals) :
    va_Run5 p l e R s m args below meth c H locs cells slots mc ms (F0 m pc ls (.ref a :: rest)) rest (Qc (Value.ref b :: vals).toArray) free := by
  obtain ⟨hx, hb, hml, hown, hts⟩ := S
  obtain ⟨⟨cl9, sl9, mo9, ha9, vm9⟩, hlm, hce1, hce2, hce3⟩ := hlm
  dsimp only at hce1 hce2 hce3
  subst hce1 hce2 hce3
  try simp only [Nat.add_zero] at di dr
  obtain ⟨m', k, cf, i0, p0, l0, hm, hk, hcf, hsh, hfind, hmade, hcall, hl⟩ := hK.lm hq
  obtain ⟨k2, hk2, hname⟩ := className_of_methodNamed hm
  cases hk.symm.trans hk2
  obtain ⟨kc, tk, file, methk, ck, toy, t, hkc, hkind, hkn, hfile, hpool, hmk, hckK, hbytes, hnl, hlkK, hfl, hretk, htoy, htk, hitf, hlook, hready, hclsR, htys, hfld⟩ := lm_facts ok hk (hname.trans hcl) hmade (lm_obj hts)
  obtain ⟨hdecl, hface⟩ := hK.ifc hI
  obtain ⟨r0, r, hn, hrm, hstR, hsigR⟩ := Cond.declares_spec hdecl
  obtain ⟨cL, kL, r1, hcL, hkL, hiL, hfoundL, hn1⟩ := Cond.interfaceMethod_spec hface
  cases hn.symm.trans hn1
  have hr0cls : r0.cls = cL := Option.some.inj ((findClass_of_methodNamed hn).symm.trans hcL)
  obtain ⟨hnameR, hdescR⟩ := name_of_methodNamed hn hrm
  obtain ⟨-, -, -, -, -, -, -, iface', -, -, -, -, found, -, -, -, -, -, hi', -, -, -, -, -, -, hfound', -, -, -, -, -, -, -, -, -, -, hselK⟩ := Lambda.isMade_spec hmade
  have hcL2 : s.vm.findClass σ.iface = some cL := by rw [hxI] at hcL; exact hcL
  cases hcL2.symm.trans hi'
  have hfr0 : found = r0 := by
    have h1 := hfoundL
    rw [hxI] at h1
    simp only [State.methodFound?, hcL2, hkL, hiL, Option.bind_eq_bind, Option.bind_some] at h1
    have h2 : ((methodIn cL σ.name σ.sam.toString true none).ask { classPath := fun _ => none } s.vm).1 = .ok found := hfound'
    rw [h2] at h1
    exact Option.some.inj h1
  subst hfr0
  obtain ⟨i2, hi2, hasg, hway⟩ := State.lambdaCallable_spec hcall
  cases hcL2.symm.trans hi2
  have hcode : (Cond.code y ybytes maxL (some .boolean)).before args s = true := hts _ (hG _ (by rw [hw]; exact List.mem_cons_self)).1
  obtain ⟨mT, hmT⟩ := Cond.named_of_code (x := y) hcode
  obtain ⟨methT, cT, hmethT, hcT, hbytesT, hlocT, hretT, hlocksT, -, hsigT⟩ := Cond.code_spec hmT hcode
  obtain ⟨kT, hkT, hnameT⟩ := className_of_methodNamed hmT
  have hfT : s.vm.findClass y.cls = some mT.cls := findClass_of_methodNamed hmT
  have hinitK : kT.init = .initialized := Cond.initialized_spec hfT hkT (hts _ hini)
  intro T hT X
  have hstackA : (F0 m pc ls (.ref a :: rest)).stack = ([] : List Value).reverse ++ .ref a :: rest := rfl
  obtain ⟨vm₁, X₁, hstep₁⟩ := X.invokeinterface hx hown (hts _ hlink) hn hrm hstR (by rw [hr0cls]; exact hkL) hiL (kIfL_ok _ hI) (a := a) (cell := { cls := D.2.2.2 (400 + i), slots := (.ref b :: vals).toArray, monitor := mo9, hash := ha9, vm := .none }) (kcell := kc) (by rw [hT]; exact hlm) (fun z h => by cases h) hkc (by rw [hr0cls]; exact hasg)
    (m' := ⟨D.2.2.2 (400 + i), 1⟩) (meth' := methk) (by rw [Launch.admits_selectMethod X.admits]; exact hselK) hmk (by rw [hnameR, hdescR, hxI]; exact hway) (by rw [hfl]; decide) (by simp [Method.isAbstract, hfl, hasFlag, Acc.abstract])
    (g := F0 m pc ls (.ref a :: rest)) rfl (argsL := []) (rest := rest) (by rw [hsigR] at hxd; simpa using hxd.symm) hstackA (by rw [hb]; exact d)
  have hW₁ : s.WarmedH vm₁ := X₁.warmed
  obtain ⟨k₁, hk₁, he₁⟩ := hW₁.alike.2.2 _ _ hk
  have hname₁ : k₁.name = caller := by rw [he₁]; exact hname.trans hcl
  obtain ⟨kc₁, tk₁, file₁, methk₁, ck₁, toy₁, t₁, hkc₁, hkind₁, hkn₁, hfile₁, hpool₁, hmk₁, hckK₁, hbytes₁, hnl₁, hlk₁, hfl₁, hretk₁, htoy₁, htk₁, hitf₁, hlook₁, hready₁, hclsR₁, htys₁, hfld₁⟩ := lm_facts ok hk₁ hname₁ (Lambda.isMade_warmer hW₁ hmade) (lm_obj2 hts hW₁)
  have hfT₁ : vm₁.findClass y.cls = some mT.cls := by rw [hW₁.alike.findClass]; exact hfT
  have htoyT : toy₁ = mT.cls := by rw [hyn] at hfT₁; exact Option.some.inj (htoy₁.symm.trans hfT₁)
  subst htoyT
  have ht₁ : t₁ = mT := by
    have h1 : (s.setVm vm₁).methodFound? y.cls y.name y.desc = some mT := by rw [State.methodFound?_setVm hW₁.alike]; exact State.methodFound?_of_named hmT hyMH
    rw [hyn] at h1 hfT₁
    simp only [State.methodFound?, State.vm_setVm, hfT₁, htk₁, Option.bind_eq_bind, Option.bind_some] at h1
    have h2 : ((methodIn mT.cls σ.implName σ.implDesc.toString tk₁.isInterface none).ask { classPath := fun _ => none } vm₁).1 = .ok t₁ := hlook₁
    rw [h2] at h1
    exact Option.some.inj h1
  subst ht₁
  have hmethT₁ : vm₁.method? t₁ = some methT := by rw [hW₁.alike.method?]; exact hmethT
  obtain ⟨kT₁, hkT₁, heT₁⟩ := hW₁.alike.2.2 _ _ hkT
  cases htk₁.symm.trans hkT₁
  have hnm : tk₁.name ≠ "java/lang/invoke/MethodHandle" ∧ tk₁.name ≠ "java/lang/invoke/VarHandle" := by
    have : tk₁.name = y.cls := by rw [heT₁]; exact hnameT
    rw [this]; exact hyMH
  have hsp : ∀ z : Method, signaturePolymorphic tk₁ z = false := fun z => by simp [signaturePolymorphic, hnm.1, hnm.2]
  obtain ⟨bb, hmem⟩ := memberRef_ask' (e := e) (vm := vm₁) (d := D.2.2.2 (400 + i)) (index := iM) hkc₁ hfile₁ (Or.inl (by rw [hpool₁]; exact ok.2.2.2.2.2.1.1)) (by rw [hpool₁]; exact ok.2.2.2.2.2.1.2.2)
  have hpk : (T.setVm vm₁).plainMethod ⟨D.2.2.2 (400 + i), 1⟩ := State.plainMethod.of_name (fun k' hk' => by cases hkc₁.symm.trans hk'; rw [hkn₁]; exact hnK)
  have hsz : (F0 m pc ls rest).locals.size = c.maxLocals := hsz0.trans hml.symm
  have hdg : decode c.code (F0 m pc ls rest).pc = .ok (.invokeinterface index count, 5) := by rw [hb]; exact d
  obtain ⟨Y₀, hin⟩ := X₁.into (g := F0 m pc ls rest) rfl hsz hdg (Value.ref a :: []).toArray (R' := { frames := rm.frames + 1, cells := mc, slots := ms, locals := 8 + (maxL + 11) + rm.locals }) hmk₁ hckK₁ hlk₁ hpk
    (by show rm.frames + 1 + 1 ≤ R.frames; omega) (by rw [hnl₁]; show 2 * 0 + (rest.map fun v => v.category).sum + (1 + 11) + (8 + (maxL + 11) + rm.locals) ≤ R.locals; omega) hf.1 hf.2
  generalize hU : ((T.setVm vm₁).setTop (F0 m pc ls rest)).pushFrame (.java (entryFrame ⟨D.2.2.2 (400 + i), 1⟩ (Value.ref a :: []).toArray ck₁.maxLocals)) = U at Y₀ hin
  have hvm : U.vm = vm₁ := by rw [← hU]; rfl
  have hheap : U.heap = H := by rw [← hU]; exact hT
  have hBack : Back l { frames := rm.frames + 1, cells := mc, slots := ms, locals := 8 + (maxL + 11) + rm.locals } p e (.java (F0 m pc ls rest) :: below) ((T.setVm vm₁).calling (F0 m pc ls rest) ⟨D.2.2.2 (400 + i), 1⟩ (Value.ref a :: []).toArray) (Value.ref a :: []).toArray y 3 8 (PreOf { frames := rm.frames + 1, cells := mc, slots := ms, locals := 8 + (maxL + 11) + rm.locals } mc ms (kPre D H (.ref b :: vals))) (PostOf Qc mc ms free) :=
    back_of (bytes := ybytes) (maxL := maxL) (ret := some .boolean) hM kPre.blind hrc hrs (Nat.le_refl _) (Nat.le_refl _) (fun w hw' a' V hV => pay_in hts hG w hw' a' V (State.WarmedH.trans X₁.warmed hV)) (by rw [hw]; exact List.mem_cons_self) (fun a' V hV => word_at (State.WarmedH.trans X₁.warmed hV) (Or.inl (by first | rfl | simp [Cond.onTables, Cond.keeps, Cond.steady])) (hts _ hini))
  have hs : U.topJava?.isSome := Y₀.here.top
  obtain ⟨v, ⟨U', l2, c2, s2⟩, Y', ⟨g2, mk2, tt, L, e1, e2, hqc, h1, hL, h2, h3⟩, hst9⟩ := hBack _ _ _ ⟨U, [], 0, 0⟩ { method := ⟨D.2.2.2 (400 + i), 1⟩, pc := 4 * fs.length, locals := #[.val (.ref a)], stack := [], locked := none } (.invokevirtual iM) t₁ (Value.ref b :: vals).toArray Y₀ rfl (by rw [hnl₁]; rfl) (by rw [hbytes₁]; exact di) (by show 2 * 0 + 0 ≤ 8; omega)
    (by have h9 := X₁.named hmT; rw [← hU]; exact h9) ⟨by show 0 + mc ≤ mc; omega, by show 0 + ms ≤ ms; omega, rfl, hheap, hK.moved hS.toFr hB hheap (by rw [hvm]; exact hW₁)⟩
  dsimp only [Pt.U, Pt.locs, Pt.cells, Pt.slots] at Y' e1 e2 h1 h2 h3 hst9
  rw [show l2 = L by simpa using h1, h2, h3] at Y'
  obtain ⟨bo, hbo⟩ := hret _ _ _ hqc
  subst hbo
  obtain ⟨fs9, hleave, -, hended, hWe, hsame⟩ := Y'.leave (v := some (.int (kI (kb bo)))) (fun h => by rw [hretk₁] at h; cases h) hlk₁
  obtain ⟨T', X', hW', -, ht⟩ := X₁.outOf (g := F0 m pc ls rest) rfl hdg hended hWe hsame
  have hTh : T'.heap = U'.heap := by
    have := congrArg State.heap ht
    exact this.symm
  have hTv : T'.vm = U'.vm := by
    have := congrArg State.vm ht
    exact this.symm
  refine ⟨some (.int (kI (kb bo))), U.calling g2 mk2 (Value.ref b :: vals).toArray, tt, T', L, hheap, by simpa using X', hL, hTh.trans e1, hTv.trans e2, hqc, fun target hgo => ?_⟩
  refine hstep₁ _ fun acts => ?_
  show Steps p.tables e below (doInvoke e ((T.setVm vm₁).setTop (F0 m pc ls rest)) acts ⟨D.2.2.2 (400 + i), 1⟩ (Value.ref a :: []).toArray).1 target
  rw [hin acts]
  refine Steps.trans ?_ hgo
  have ht' : T'.setTop { F0 m pc ls (.ref a :: rest) with pc := pc + 5, stack := (some (Value.int (kI (kb bo)))).toList ++ rest } = U'.setFrames fs9 := ht.symm
  show Steps p.tables e below _ (T'.setTop { F0 m pc ls (.ref a :: rest) with pc := pc + 5, stack := (some (Value.int (kI (kb bo)))).toList ++ rest })
  rw [ht']
  refine lm_weaken (mid := [.java (F0 m pc ls rest)]) ?_
  have hloc : entryFrame ⟨D.2.2.2 (400 + i), 1⟩ (Value.ref a :: []).toArray ck₁.maxLocals = { method := ⟨D.2.2.2 (400 + i), 1⟩, pc := 0, locals := #[.val (.ref a)], stack := [], locked := none } := by rw [hnl₁]; rfl
  rw [hloc]
  refine kl_push Y₀ hx hbytes₁ (a := a) rfl (cell := { cls := D.2.2.2 (400 + i), slots := (.ref b :: vals).toArray, monitor := mo9, hash := ha9, vm := .none }) (by rw [hheap]; exact hlm) (fun h => by cases h) fs (Value.ref b :: vals) 0 hlen (fun j q hj => by
    have hd := dk j q hj
    obtain ⟨f, f1, f2, f3⟩ := hfld₁ j q hj
    have hjl : j < (Value.ref b :: vals).length := by rw [hlen]; exact (List.getElem?_eq_some_iff.mp hj).1
    rw [show 0 + j = j by omega]
    exact ⟨hd.1, hd.2, f, (Value.ref b :: vals)[j], by rw [hvm]; exact f1, f2, by rw [f3]; simp [hjl], List.getElem?_eq_getElem hjl⟩) [] _ ?_
  rw [show 0 + fs.length = fs.length by omega, List.append_nil]
  obtain ⟨mI, methI, hnI, hmI, hstI, habI⟩ := Cond.instanceMethod_spec (hts _ hinst)
  cases hmT.symm.trans hnI
  cases hmethT.symm.trans hmI
  obtain ⟨c2, r2, m2, q1, q2, q3, q4, kP, hkP, hkPi⟩ := Cond.selects_spec (hts _ hsel)
  obtain ⟨cellB, hcB, hoB, hclB⟩ := hrecv
  cases hclB.symm.trans q1
  cases (State.methodFound?_of_named hmT hyMH).symm.trans q2
  cases hmT.symm.trans q3
  have hpar : vals.length = methT.sig.parameters.length := by rw [hsigT] at hyd; simpa using hyd.symm
  have hitT : tk₁.isInterface = false := hitf₁.trans hitf0
  rw [List.reverse_cons]
  jvm_step Y₀.here [hx, hbytes₁, di, invokevirtual.wp_ready (e := e) (s := U) (r := t₁) (m := t₁) (k := tk₁) (mk := tk₁) (rmeth := methT) (meth := methT) (a := b) (args := vals) (rest := []) (cell := cellB)
    (f := { method := ⟨D.2.2.2 (400 + i), 1⟩, pc := 4 * fs.length, locals := #[.val (.ref a)], stack := vals.reverse ++ [.ref b], locked := none }) hs ⟨kc₁, file₁, ciM, ntM, t₁.cls, tk₁, by rw [hvm]; exact hkc₁, hfile₁, by rw [hpool₁]; exact ok.2.2.2.2.2.1.1, by rw [hvm]; exact hclsR₁, by rw [hvm]; exact htk₁, hitT⟩ (by rw [hvm]; exact hready₁) (by rw [hvm]; exact htk₁) (by rw [hvm]; exact hmethT₁) (hsp _) hstI hpar rfl
    (by rw [hheap]; exact hcB) (fun z h => by rw [h] at hoB; cases hoB) (by rw [hvm, Launch.admits_selectMethod X.admits, hW₁.alike.selectMethod]; exact q4) (by rw [hvm]; exact hmethT₁) habI (by rw [hvm]; exact htk₁) hitT]
  intro acts'
  rw [doInvoke_state]
  refine hst9.trans ?_
  jvm_step Y'.here [Y'.here.top, hx, hbytes₁, dr, Y'.method', hretk₁, kb_narZ]
  intro acts''
  rw [hleave { method := ⟨D.2.2.2 (400 + i), 1⟩, pc := 4 * fs.length + 3, locals := #[.val (.ref a)], stack := [], locked := none } acts'' rfl rfl rfl]
  exact Steps.refl _
end KLM2

