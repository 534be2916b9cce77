/-! LAMBDAS: the made classes, their making, the calls -/
section KLM
def lm_D (σ : Lambda.Shape) (caller : String) : ClassFile := (σ.file caller).getD { minorVersion := 0, majorVersion := 0, constantPool := #[], accessFlags := 0, thisClass := 0, superClass := 0, interfaces := #[], fields := #[], methods := #[], attributes := #[] }
def lm_fw (σ : Lambda.Shape) (caller : String) : Method := ((layoutMethods (lm_D σ caller)).bind (·[1]?)).getD default
def lm_laid (σ : Lambda.Shape) (caller : String) : Array Field × Array FieldType × Array FieldType := (layoutFields (lm_D σ caller) 0).getD (#[], #[], #[])
/-- what is to be seen of a made class' file -/
def lm_ok (σ : Lambda.Shape) (caller : String) (bytes : ByteArray) (nl iM ciM ntM cnM : Nat) (fs : List (Nat × Nat)) : Prop :=
  (σ.file caller).isSome = true ∧ ((layoutMethods (lm_D σ caller)).bind (·[1]?)).isSome = true ∧ (layoutFields (lm_D σ caller) 0).isSome = true ∧
  ((lm_fw σ caller).code.map fun c => (c.code.data, c.maxLocals)) = some (bytes.data, nl) ∧ ((lm_fw σ caller).accessFlags, (lm_fw σ caller).sig.returnType) = (0x0001, some FieldType.boolean) ∧
  ((lm_D σ caller).constantPool[iM]? = some (.methodref ciM ntM) ∧ (lm_D σ caller).constantPool.className? ciM = some σ.implClass ∧ (lm_D σ caller).constantPool.nameAndType? ntM = some (σ.implName, σ.implDesc.toString)) ∧
  ((lm_D σ caller).constantPool[ciM]? = some (.class_ cnM) ∧ (lm_D σ caller).constantPool.string? cnM = some σ.implClass ∧ ciM ≠ (lm_D σ caller).thisClass) ∧
  (lm_laid σ caller).2.1 = σ.captured.toArray ∧
  ∀ q ∈ fs.zipIdx, (lm_D σ caller).constantPool[q.1.1]? = some (.fieldref 2 q.1.2) ∧ ((lm_D σ caller).constantPool.nameAndType? q.1.2).map (·.1) = some (Lambda.fieldName q.2) ∧ (lm_laid σ caller).1.findIdx? (·.name == Lambda.fieldName q.2) = some q.2 ∧ ((lm_laid σ caller).1[q.2]?).map (fun f => (f.isStatic, f.slot)) = some (false, q.2)
theorem lm_facts {σ : Lambda.Shape} {caller : String} {bytes : ByteArray} {nl iM ciM ntM cnM : Nat} {fs : List (Nat × Nat)} (ok : lm_ok σ caller bytes nl iM ciM ntM cnM fs) {e : Setting} {vm : Vm} {d c : ClassId} {dk : Class} (hd : vm.classes[d]? = some dk) (hname : dk.name = caller) (h : Lambda.isMade e vm d σ c = true)
    (hO : ∀ o ok, vm.findClass "java/lang/Object" = some o → vm.classes[o]? = some ok → ok.instanceTypes.size = 0) :
    ∃ (k tk : Class) (file : ClassFile) (methk : Method) (ck : Code) (toy : ClassId) (t : MethodId),
      vm.classes[c]? = some k ∧ k.kind = .ordinary ∧ k.name = caller ++ "$$Lambda" ∧ k.cf = some file ∧ file.constantPool = (lm_D σ caller).constantPool ∧
      vm.method? ⟨c, 1⟩ = some methk ∧ methk.code = some ck ∧ ck.code = bytes ∧ ck.maxLocals = nl ∧ methk.locks = false ∧ methk.accessFlags = 0x0001 ∧ methk.sig.returnType = some .boolean ∧
      vm.findClass σ.implClass = some toy ∧ vm.classes[toy]? = some tk ∧ tk.isInterface = σ.implItf ∧ ((methodIn toy σ.implName σ.implDesc.toString tk.isInterface none).ask e vm).1 = .ok t ∧
      vm.methodReady c iM t ∧ vm.classReady c ciM toy ∧ k.instanceTypes = σ.captured.toArray ∧ (∀ (j : Nat) (q : Nat × Nat), fs[j]? = some q → ∃ f : Field, vm.fieldReady c q.1 c f ∧ f.isStatic = false ∧ f.slot = j) := by
  obtain ⟨o1, o2, o3, fc, ff, eM, eC, eT, eF⟩ := ok
  obtain ⟨dk', k, ok, tk, file, cf, object, iface, toy, lay, methods, target, found, hd', hk, hfile, hcf, hobj, -, hok, hlay, hms, ht, htk, hg, -, hrec, -, -, -, hitf, hpool, hmeth, hfields, hty, hres, -⟩ := Lambda.isMade_spec h
  cases hd.symm.trans hd'
  have file_is : σ.file caller = some (lm_D σ caller) := by
    obtain ⟨x, hx⟩ := Option.isSome_iff_exists.mp o1
    simp [lm_D, hx]
  rw [hname, file_is] at hcf
  cases hcf
  have laid_is : layoutFields (lm_D σ caller) 0 = some (lm_laid σ caller) := by
    obtain ⟨x, hx⟩ := Option.isSome_iff_exists.mp o3
    simp [lm_laid, hx]
  have hO0 := hO object ok hobj hok
  rw [hO0, laid_is] at hlay
  cases hlay
  have second_is : methods[1]? = some (lm_fw σ caller) := by
    obtain ⟨x, hx⟩ := Option.isSome_iff_exists.mp o2
    have hf : lm_fw σ caller = x := by simp [lm_fw, hx]
    rw [hms] at hx
    rw [hf]
    exact hx
  obtain ⟨b, hb, hsame⟩ := hmeth 1 _ second_is
  simp only [Lambda.sameMethod, Bool.and_eq_true, decide_eq_true_eq] at hsame
  obtain ⟨⟨hn, -, hsig, hfl⟩, hcode⟩ := hsame
  simp only [Prod.mk.injEq] at ff
  cases hfc : (lm_fw σ caller).code with
  | none => rw [hfc] at fc; cases fc
  | some x =>
    cases hbc : b.code with
    | none => simp [hfc, hbc] at hcode
    | some y =>
      simp only [hfc, hbc, Bool.and_eq_true, decide_eq_true_eq] at hcode
      simp only [hfc, Option.map_some, Option.some.injEq, Prod.mk.injEq] at fc
      refine ⟨k, tk, file, b, y, toy, target, hk, hrec.2.1, by rw [hrec.1, hname], hfile, hpool.2.1, by simp [Vm.method?, hk, hb], hbc, ?_, by rw [← hcode.1.1.1.1.2.1]; exact fc.2, ?_, by rw [← hfl]; exact ff.1, by rw [← hsig]; exact ff.2, ht, htk, hitf, hg,
        ⟨k, hk, hres iM _ (Lambda.resolvedOf_method eM.1 eM.2.1 ht htk eM.2.2 hg)⟩, ⟨k, hk, hres ciM _ (Lambda.resolvedOf_class eC.1 eC.2.2 eC.2.1 ht)⟩, ?_, fun j q hj => ?_⟩
      · rw [← hcode.1.1.1.1.2.2]
        exact ByteArray.ext fc.1
      · simp [Method.locks, Method.isSynchronized, ← hfl, ff.1, hasFlag, Acc.synchronized]
      · rw [hty.1, Array.eq_empty_of_size_eq_zero hO0, eT, Array.empty_append]
      · have hm : (q, j) ∈ fs.zipIdx := by rw [List.mem_zipIdx_iff_getElem?]; simpa using hj
        obtain ⟨e1, e2, e3, e4⟩ := eF _ hm
        dsimp only at e1 e2 e3 e4
        obtain ⟨nd, hnd, hnd2⟩ := Option.map_eq_some_iff.mp e2
        obtain ⟨g0, hg0, hp0⟩ := Option.map_eq_some_iff.mp e4
        simp only [Prod.mk.injEq] at hp0
        obtain ⟨nm, ds⟩ := nd
        dsimp only at hnd2
        subst hnd2
        exact ⟨g0, ⟨k, j, k, hk, hres q.1 _ (Lambda.resolvedOf_field e1 hnd e3), hk, hfields j _ hg0⟩, hp0.1, hp0.2⟩
theorem lm_arr3 {α : Type} {x : Array Nat} {f : Nat → Nat → Nat → Option α} {r : α} (h : Lambda.shapeOf?.match_15 (fun _ => Option α) x f (fun _ => none) = some r) : ∃ a0 a1 a2, f a0 a1 a2 = some r := by
  obtain ⟨L⟩ := x
  rcases L with _ | ⟨a0, _ | ⟨a1, _ | ⟨a2, _ | ⟨a3, L⟩⟩⟩⟩
  · cases h
  · cases h
  · cases h
  · exact ⟨a0, a1, a2, h⟩
  · cases h
theorem lm_site {cf : ClassFile} {index : Nat} {σ : Lambda.Shape} (h : Lambda.shapeOf? cf index = some σ) : ∃ (b nt : Nat) (desc : String) (site : MethodDescriptor), cf.constantPool[index]? = some (.invokeDynamic b nt) ∧ cf.constantPool.nameAndType? nt = some (σ.name, desc) ∧ parseMethodDescriptor desc = some site ∧ site.parameters = σ.captured := by
  unfold Lambda.shapeOf? at h
  split at h
  · rename_i b nt hc
    obtain ⟨entries, -, h⟩ := Option.bind_eq_some_iff.mp h
    obtain ⟨bm, -, h⟩ := Option.bind_eq_some_iff.mp h
    split at h
    · obtain ⟨_, -, h⟩ := Option.bind_eq_some_iff.mp h
      obtain ⟨a0, a1, a2, h⟩ := lm_arr3 h
      split at h
      · split at h
        · split at h
          · obtain ⟨⟨nm, desc⟩, h1, h⟩ := Option.bind_eq_some_iff.mp h
            obtain ⟨site, h2, h⟩ := Option.bind_eq_some_iff.mp h
            split at h
            · obtain ⟨⟨c1, c2, c3, c4⟩, -, h⟩ := Option.bind_eq_some_iff.mp h
              obtain ⟨_, -, h⟩ := Option.bind_eq_some_iff.mp h
              obtain ⟨_, -, h⟩ := Option.bind_eq_some_iff.mp h
              obtain ⟨_, -, h⟩ := Option.bind_eq_some_iff.mp h
              obtain ⟨_, -, h⟩ := Option.bind_eq_some_iff.mp h
              obtain ⟨_, -, h⟩ := Option.bind_eq_some_iff.mp h
              have e := Option.some.inj h
              subst e
              exact ⟨b, nt, desc, site, hc, h1, h2, rfl⟩
            · cases h
          · cases h
        · cases h
      · cases h
    · cases h
  · cases h
/-- a made object in the heap -/
def kLm (D : kG) (H : Heap) (a i : Nat) (vs : List Value) : Prop := ∃ ce : Cell, H[a]? = some ce ∧ ce.cls = D.2.2.2 (400 + i) ∧ ce.slots = vs.toArray ∧ ce.vm = .none
theorem kLm.kp {D : kG} {H H1 : Heap} {a i : Nat} {vs : List Value} (h : kLm D H a i vs) (q : H1[a]? = H[a]?) : kLm D H1 a i vs := by
  obtain ⟨ce, h1, h2⟩ := h
  exact ⟨ce, q.trans h1, h2⟩
theorem kLm.lt {D : kG} {H : Heap} {a i : Nat} {vs : List Value} (h : kLm D H a i vs) : a < H.size := by
  obtain ⟨ce, h1, h2⟩ := h
  exact (Array.getElem?_eq_some_iff.mp h1).1
theorem kLm.ex {D : kG} {H H1 : Heap} {a i : Nat} {vs : List Value} (h : kLm D H a i vs) (q : kEx H H1) : kLm D H1 a i vs := h.kp (q.2 a h.lt)
theorem kLm.up {D : kG} {H H1 : Heap} {a b i : Nat} {vs : List Value} (h : kLm D H a i vs) (q : kUp H b H1) (n : a ≠ b) : kLm D H1 a i vs := h.kp (q.2 a n)
theorem kLm.fr {D : kG} {H H1 : Heap} {A : Nat → Prop} {a i : Nat} {vs : List Value} (h : kLm D H a i vs) (q : kFr A H H1) (n : ¬ A a) : kLm D H1 a i vs := h.kp (q.2 a h.lt n)
variable {p : Program} {l : Launch} {e : Env} {R : Room} {s : State} {m : MethodId} {args : Array Value} {below : List Frame} {meth : Method} {c : Code} {H : Heap} {locs : List Loc} {cells slots : Nat} {Q : State → Prop}
variable {cc : ByteArray} {pc : Nat} {ls : Array Slot} {rest : List Value} {D : kG} {A : Nat → Prop} {a : Nat} {H0 : Heap}
theorem lm_obj {args : Array Value} (hts : ∀ w ∈ lw_all, w.before args s = true) : ∀ o ok, s.vm.findClass "java/lang/Object" = some o → s.vm.classes[o]? = some ok → ok.instanceTypes.size = 0 := by
  intro o ok h1 h2
  obtain ⟨c, k, hc, hk, -, -, -, hs⟩ := Cond.instantiable_spec (hts _ q2703)
  cases h1.symm.trans hc
  cases h2.symm.trans hk
  exact hs
/-- invokedynamic with captured values -/
theorem kx_lam (hx : p.tables.exec = Jvm.exec) (hb : c.code = cc) {nL : Nat} (hml : c.maxLocals = nL) (hsz0 : ls.size = nL) (hts : ∀ w ∈ lw_all, w.before args s = true) (hK : kK D s) {x : MethodName} (hnm : s.methodNamed? x = some m) {i index : Nat} {σ : Lambda.Shape} (hq : kLmL[i]? = some (x, pc, index, σ)) (hi : i ≠ 15) {caller : String} (hcl : x.cls = caller) {bytes : ByteArray} {nl iM ciM ntM cnM : Nat} {fs : List (Nat × Nat)} (ok : lm_ok σ caller bytes nl iM ciM ntM cnM fs) (hS : va_S A H0 H locs) {vals : List Value} (hlen : vals.length = σ.captured.length) (hn : ∀ q ∈ σ.captured.zip vals, narrow q.1 q.2 = q.2 ∧ fits q.1 q.2 = true)
    (hcells : cells + 1 ≤ R.cells) (hslots : slots + vals.length ≤ R.slots) (hwords : ((vals.reverse ++ rest).map fun v => v.category).sum + 3072 ≤ R.locals) (d : decode cc pc = .ok (.invokedynamic index, 5))
    (kk : ∀ (q : Nat) (H1 : Heap), q = H.size → H1.size = H.size + 1 → kLm D H1 q i vals → kEx H H1 → va_S A H0 H1 locs → W p l e R s m args below meth c H1 locs (cells + 1) (slots + vals.length) Q (F0 m (pc + 5) ls (.ref q :: rest))) : W p l e R s m args below meth c H locs cells slots Q (F0 m pc ls (vals.reverse ++ rest)) := by
  obtain ⟨m', k, cf, i0, p0, l0, hm, hk, hcf, hsh, hfind, hmade, hcall, hl⟩ := hK.lm hq
  cases hnm.symm.trans hm
  rw [if_neg hi] at hl
  subst hl
  obtain ⟨k2, hk2, hname⟩ := className_of_methodNamed hnm
  cases hk.symm.trans hk2
  obtain ⟨kc, tk, file, methk, ck, toy, t, hkc, hkind, hkn, hfile, hpool, hmk, hckK, hbytes, hnl, hlk, hfl, hretk, htoy, htk, hitf, hlook, hready, hclsR, htys, hfld⟩ := lm_facts ok hk (hname.trans hcl) hmade (lm_obj hts)
  obtain ⟨b, nt, desc, site, hc, hnt, hsig, hcap⟩ := lm_site hsh
  have hmap : ((kc.instanceTypes.toList.zip vals).map fun (t, v) => narrow t v) = vals := by
    rw [htys]
    show (σ.captured.zip vals).map _ = vals
    have : ∀ (ts : List FieldType) (vs : List Value), vs.length = ts.length → (∀ q ∈ ts.zip vs, narrow q.1 q.2 = q.2 ∧ fits q.1 q.2 = true) → (ts.zip vs).map (fun (t, v) => narrow t v) = vs := by
      intro ts
      induction ts with
      | nil => intro vs h _; cases vs with
        | nil => rfl
        | cons v vs => cases h
      | cons t ts ih => intro vs h hq; cases vs with
        | nil => cases h
        | cons v vs =>
          rw [List.zip_cons_cons, List.map_cons, ih vs (by simpa using h) (fun q hm => hq q (by rw [List.zip_cons_cons]; exact List.mem_cons_of_mem _ hm))]
          show narrow t v :: vs = v :: vs
          rw [(hq (t, v) (by rw [List.zip_cons_cons]; exact List.mem_cons_self)).1]
    exact this _ _ hlen hn
  intro T hT X
  obtain ⟨X', st⟩ := X.lambdaMakes hx (g := F0 m pc ls (vals.reverse ++ rest)) rfl (hsz0.trans hml.symm) (by rw [hb]; exact d) hk hfind hcf hc hnt (parseLong_of_parse hsig) (vals := vals) (rest := rest) (by rw [hcap]; exact hlen) rfl hkc
    (by have hw : e.platform.lambdaLinkWords = 3072 := by rw [X.admits.platform]
        rw [hw]; show 2 * 0 + ((vals.reverse ++ rest).map fun v => v.category).sum + 3072 ≤ R.locals; omega) hcells (by rw [hmap]; exact hslots) (fun j v hv => by
      rw [hmap] at hv
      unfold State.fitsSlot
      have hst : s.slotType? (D.2.2.2 (400 + i)) .none j = σ.captured[j]? := by
        unfold State.slotType?
        simp [hkc, htys, hkind]
      rw [hst]
      have hvj : vals[j]? = some v := by simpa using hv
      have hjl : j < σ.captured.length := by rw [← hlen]; exact (List.getElem?_eq_some_iff.mp hvj).1
      rw [List.getElem?_eq_getElem hjl]
      refine (hn (σ.captured[j], v) ?_).2
      rw [List.mem_iff_getElem?]
      exact ⟨j, by rw [List.getElem?_zip_eq_some]; exact ⟨List.getElem?_eq_getElem hjl, hvj⟩⟩)
  rw [hmap] at X' st
  have hsz : (T.pushCell { cls := D.2.2.2 (400 + i), slots := vals.toArray, vm := .none }).heap = T.heap.push { cls := D.2.2.2 (400 + i), slots := vals.toArray, vm := .none } := rfl
  obtain ⟨t2, a1, b1⟩ := kk H.size _ rfl (by rw [hsz, hT, Array.size_push]) ⟨_, by rw [hsz, hT, Array.getElem?_push_size], rfl, rfl, rfl⟩ ⟨by rw [hsz, hT, Array.size_push]; omega, fun q hq => by rw [hsz, hT, Array.getElem?_push, if_neg (Nat.ne_of_lt hq)]⟩
    ⟨Nat.le_trans hS.1 (by rw [hsz, hT, Array.size_push]; omega), fun y h1 h2 => by rw [hsz, hT, Array.getElem?_push, if_neg (Nat.ne_of_lt (Nat.lt_of_lt_of_le h1 hS.1))]; exact hS.2.1 y h1 h2, hS.2.2⟩ _ rfl (by simpa using X')
  exact ⟨t2, st t2 (by rw [hT]; exact a1), b1⟩
end KLM

