/-! CORE 4: arrays of references -/
section KX4
variable {p : Program} {l : Launch} {e : Env} {R : Room} {s : State} {m : MethodId} {args : Array Value} {below : List Frame} {meth : Method} {c : Code} {H : Heap} {locs : List Loc} {cells slots : Nat} {Q : State → Prop}
variable {cc : ByteArray} {pc : Nat} {ls : Array Slot} {rest : List Value} {D : kG} {A : Nat → Prop} {a : Nat} {H0 : Heap}
def kupq (f : Nat → Option Nat) (k : Nat) (x : Option Nat) : Nat → Option Nat := fun j => if j = k then x else f j
theorem kupq_self (f : Nat → Option Nat) (k : Nat) (x : Option Nat) : kupq f k x k = x := if_pos rfl
theorem kupq_ne {f : Nat → Option Nat} {k j : Nat} {x : Option Nat} (h : j ≠ k) : kupq f k x j = f j := if_neg h
theorem kx_aald (hx : p.tables.exec = Jvm.exec) (hb : c.code = cc) (hK : kK D s) {t : Nat} {E : String} (ht : (kTys D)[t]? = some (D.2.1 t, .object E)) {n : Nat} {g : Nat → Option Nat} (hA : kAq D H a t n g) {i : Int} (j : Nat) (hj : i = (j : Int)) (hn : j < n) (hn31 : n < 2147483648) (d : decode cc pc = .ok (.aaload, 1)) (kk : W p l e R s m args below meth c H locs cells slots Q (F0 m (pc + 1) ls (va_rf (g j) :: rest))) : W p l e R s m args below meth c H locs cells slots Q (F0 m pc ls (.int (kI i) :: .ref a :: rest)) :=
  va_aldq hx hb hK.va (kP1 hA) 0 t rfl ht (kI_in hj hn hn31) d (by rw [kI_cl hj (by omega)]; exact kk)
theorem kx_aast (hx : p.tables.exec = Jvm.exec) (hb : c.code = cc) (hK : kK D s) {t : Nat} {E : String} (ht : (kTys D)[t]? = some (D.2.1 t, .object E)) {n : Nat} {g : Nat → Option Nat} (hA : kAq D H a t n g) (hS0 : va_S A H0 H locs) (hAa : A a) {i : Int} (j : Nat) (hj : i = (j : Int)) (hn : j < n) (hn31 : n < 2147483648) {C : String} {v : Nat} (hr : ∃ cellV : Cell, H[v]? = some cellV ∧ cellV.vm.isStatics = false ∧ s.vm.findClass C = some cellV.cls) (hasg : ∀ comp c0 : ClassId, s.vm.findClass E = some comp → s.vm.findClass C = some c0 → s.vm.assignable c0 comp = true) (d : decode cc pc = .ok (.aastore, 1)) (kk : ∀ (H1 : Heap) (locs1 : List Loc), kAq D H1 a t n (kupq g j (some v)) → kUp H a H1 → va_S A H0 H1 locs1 → W p l e R s m args below meth c H1 locs1 cells slots Q (F0 m (pc + 1) ls rest)) : W p l e R s m args below meth c H locs cells slots Q (F0 m pc ls (.ref v :: .int (kI i) :: .ref a :: rest)) := by
  obtain ⟨cellV, g1, g3, g2⟩ := hr
  obtain ⟨kA9, comp, k1, k2, k3, -⟩ := (hK.va.2 t _ ht).2
  obtain ⟨kE, hkE, -⟩ := Vm.findClass_spec k3
  obtain ⟨kC, hkC, -⟩ := Vm.findClass_spec g2
  have hin := kI_in hj hn hn31
  refine W.aast hx hb (kP1 hA 0 _ rfl) (fun q h => by cases h) (fun h => by cases h) k1 k2 rfl hkE ⟨fun q => hin (Or.inl q), by show _ < (arrV _ _ _).slots.size; rw [arrV_size]; exact Nat.not_le.mp fun q => hin (Or.inr q)⟩ g1 (fun q h => by rw [h] at g3; cases g3) hkC (hasg _ _ k3 g2) rfl rfl d fun H1 e1 z oq => ?_
  refine kk H1 _ ?_ ⟨z, oq⟩ (hS0.put z oq hAa)
  show H1[a]? = some (vp_cell _ _)
  rw [e1, vp_cell_q, vp_cell_q, arrV_store, kI_cl hj (by omega)]
  congr 2
  funext q
  by_cases hq : q = j
  · subst hq
    simp [updV, kupq, va_rf]
  · simp [updV, kupq, hq]
theorem kx_aastN (hx : p.tables.exec = Jvm.exec) (hb : c.code = cc) (hK : kK D s) {t : Nat} {E : String} (ht : (kTys D)[t]? = some (D.2.1 t, .object E)) {n : Nat} {g : Nat → Option Nat} (hA : kAq D H a t n g) (hS0 : va_S A H0 H locs) (hAa : A a) {i : Int} (j : Nat) (hj : i = (j : Int)) (hn : j < n) (hn31 : n < 2147483648)  (d : decode cc pc = .ok (.aastore, 1)) (kk : ∀ (H1 : Heap) (locs1 : List Loc), kAq D H1 a t n (kupq g j (none)) → kUp H a H1 → va_S A H0 H1 locs1 → W p l e R s m args below meth c H1 locs1 cells slots Q (F0 m (pc + 1) ls rest)) : W p l e R s m args below meth c H locs cells slots Q (F0 m pc ls (.null :: .int (kI i) :: .ref a :: rest)) := by
  refine va_WaastN (C := E) hx hb (kP1 hA 0 _ rfl) ((hK.va.2 t _ ht).1 n (fun j => va_rf (g j))) (fun h => by cases h) (by show ¬ (kI i < 0 ∨ (arrV _ _ _).slots.size ≤ _); rw [arrV_size]; exact kI_in hj hn hn31) rfl rfl d fun H1 e1 z oq => ?_
  refine kk H1 _ ?_ ⟨z, oq⟩ (hS0.put z oq hAa)
  show H1[a]? = some (vp_cell _ _)
  rw [e1, vp_cell_q, vp_cell_q, arrV_store, kI_cl hj (by omega)]
  congr 2
  funext q
  by_cases hq : q = j
  · subst hq
    simp [updV, kupq, va_rf]
  · simp [updV, kupq, hq]
theorem kx_anew (hx : p.tables.exec = Jvm.exec) (hb : c.code = cc) (hts : ∀ w ∈ lw_all, w.before args s = true) {own C : String} {index : Nat} (hown : s.vm.findClass own = some m.cls) (hlink : Cond.classLink own index C ∈ lw_all) (hK : kK D s) (hov : C ∈ kAoL) {t : Nat} (ht : (kTys D)[t]? = some (D.2.1 t, .object C)) (hS : va_S A H0 H locs) {n : Int} {N' : Nat} (hn : n = (N' : Int)) (hN : N' < 100000) (hcells : cells + 1 ≤ R.cells) (hslots : slots + N' ≤ R.slots) (d : decode cc pc = .ok (.anewarray index, 3))
    (kk : ∀ (q : Nat) (H1 : Heap), q = H.size → H1.size = H.size + 1 → kAq D H1 q t N' (fun _ => none) → kEx H H1 → va_S A H0 H1 locs → W p l e R s m args below meth c H1 locs (cells + 1) (slots + N') Q (F0 m (pc + 3) ls (.ref q :: rest))) : W p l e R s m args below meth c H locs cells slots Q (F0 m pc ls (.int (kI n) :: rest)) := by
  subst hn
  have hN2 : (kI (N' : Int)).toNatClampNeg = N' := kI_cl rfl (by omega)
  refine W.anew hx hb hown (hts _ hlink) (va_AO.use (hK.ao hov)) rfl d rfl (by rw [kI_0, kI_lt (by omega) (by omega) (by omega) (by omega)]; omega) (by rw [hN2]; omega) hcells (by rw [hN2]; exact hslots) fun cA kA9 comp f1 f2 f3 f4 => ?_
  have hcA : cA = D.2.1 t := by
    obtain ⟨kB, comp2, h1, h2, h3, h4⟩ := (hK.va.2 t _ ht).2
    exact Option.some.inj (f1.symm.trans h4)
  subst hcA
  rw [hN2]
  generalize hH1 : H.push ({ cls := D.2.1 t, slots := Array.replicate N' .null, vm := .none } : Cell) = H1
  have z1 : H1.size = H.size + 1 := by rw [← hH1, Array.size_push]
  have o1 : ∀ q : Nat, q < H.size → H1[q]? = H[q]? := fun q hq => by rw [← hH1, Array.getElem?_push, if_neg (Nat.ne_of_lt hq)]
  refine kk H.size H1 rfl z1 ?_ ⟨by omega, o1⟩ ⟨Nat.le_trans hS.1 (by omega), fun x h1 h2 => (o1 x (Nat.lt_of_lt_of_le h1 hS.1)).trans (hS.2.1 x h1 h2), hS.2.2⟩
  show H1[H.size]? = some (vp_cell _ _)
  rw [vp_cell_q, ← hH1, Array.getElem?_push_size, ← arrV_new]
  rfl
theorem kx_eqq (hx : p.tables.exec = Jvm.exec) (hb : c.code = cc) {v : Option Nat} {b : Nat} (h : v = some b) (k : W p l e R s m args below meth c H locs cells slots Q (F0 m pc ls (.ref b :: rest))) : W p l e R s m args below meth c H locs cells slots Q (F0 m pc ls (va_rf v :: rest)) := by subst h; exact k
theorem kx_eqqN (hx : p.tables.exec = Jvm.exec) (hb : c.code = cc) {v : Option Nat} (h : v = none) (k : W p l e R s m args below meth c H locs cells slots Q (F0 m pc ls (.null :: rest))) : W p l e R s m args below meth c H locs cells slots Q (F0 m pc ls (va_rf v :: rest)) := by subst h; exact k
theorem kx_tlen (hx : p.tables.exec = Jvm.exec) (hb : c.code = cc) {ty : FieldType} {t N : Nat} {f : Nat → Value} (hT : va_T ty t N f (kOld D) s s.heap) (hS : va_S A s.heap H locs) (hB : ∀ q, A q → kBase D ≤ q) (dd : decode cc pc = .ok (.arraylength, 1)) (kk : W p l e R s m args below meth c H locs cells slots Q (F0 m (pc + 1) ls (.int (kI ((N : Nat) : Int)) :: rest))) : W p l e R s m args below meth c H locs cells slots Q (F0 m pc ls (.ref t :: rest)) := va_tlen hx hb (hT.narrow hB) hS rfl dd kk
theorem kx_copyq (hx : p.tables.exec = Jvm.exec) (hb : c.code = cc) {nL : Nat} (hml : c.maxLocals = nL) (hsz0 : ls.size = nL) {own : String} {index : Nat} (hts : ∀ w ∈ lw_all, w.before args s = true) (hown : s.vm.findClass own = some m.cls) (hlink : Cond.methodLink own index arraycopyName ∈ lw_all) (hnat : Cond.native arraycopyName ∈ lw_all) (hstat : Cond.static arraycopyName ∈ lw_all) (hini : Cond.initialized "java/lang/System" ∈ lw_all)
    (hK : kK D s) {n ci : Nat} {g : Nat → Option Nat} {C : String} {T2 : u_T} {N2 : Nat} (hc : vwCl[ci]? = some (C, T2, N2)) (hcast : va_Nw (.castable C "java/lang/Object") s) (hA : kAq D H a 4 n g) (hS0 : va_S A H0 H locs) (hAa : A a) (hn31 : n < 100000) {sp dp w : Int} {sn dn wn : Nat} (e1 : sp = (sn : Int)) (e2 : dp = (dn : Int)) (e3 : w = (wn : Int)) (h4 : sn + wn ≤ n) (h5 : dn + wn ≤ n) (hel : ∀ i : Nat, i < wn → ∀ y : Nat, g (sn + i) = some y → ∃ fs, kO D H y ci fs)
    (hfr : 1 ≤ R.frames) (hlo : (rest.map fun v => v.category).sum + (nativeFrameWords "java/lang/System" "arraycopy" 5 + 11) ≤ R.locals) (dd : decode cc pc = .ok (.invokestatic index, 3))
    (kk : ∀ (H1 : Heap) (locs1 : List Loc), kAq D H1 a 4 n (va_cpy g g sn dn wn) → kUp H a H1 → va_S A H0 H1 locs1 → W p l e R s m args below meth c H1 locs1 cells slots Q (F0 m (pc + 3) ls rest)) : W p l e R s m args below meth c H locs cells slots Q (F0 m pc ls (.int (kI w) :: .int (kI dp) :: .ref a :: .int (kI sp) :: .ref a :: rest)) := by
  have i1 : (kI sp).toInt = (sn : Int) := by rw [kI_toInt (by omega) (by omega)]; exact e1
  have i2 : (kI dp).toInt = (dn : Int) := by rw [kI_toInt (by omega) (by omega)]; exact e2
  have i3 : (kI w).toInt = (wn : Int) := by rw [kI_toInt (by omega) (by omega)]; exact e3
  have c1 : (kI sp).toNatClampNeg = sn := kI_cl e1 (by omega)
  have c2 : (kI dp).toNatClampNeg = dn := kI_cl e2 (by omega)
  have c3 : (kI w).toNatClampNeg = wn := kI_cl e3 (by omega)
  have ng : ∀ z : Int, 0 ≤ z → z < 2147483648 → ¬ kI z < 0 := fun z h1 h2 => by rw [kI_0, kI_lt (by omega) (by omega) (by omega) (by omega)]; omega
  have hc0 : H[a]? = some (arrV (D.2.1 4) n (fun j => va_rf (g j))) := hA
  intro T hT X
  obtain ⟨-, k0, hk0, cm0, hkk0⟩ := (hK.va.2 4 _ rfl).1 n (fun j => va_rf (g j))
  obtain ⟨vm9, X9, step⟩ := X.arraycopy hx hown (hts _ hlink) (hts _ hnat) (hts _ hstat) (hts _ hini) (src := a) (dst := a) (cs := arrV (D.2.1 4) n (fun j => va_rf (g j))) (cd := arrV (D.2.1 4) n (fun j => va_rf (g j))) (srcPos := kI sp) (destPos := kI dp) (n := kI w) (by rw [hT]; exact hc0) (by rw [hT]; exact hc0)
    (fun _ h => by cases h) (fun _ h => by cases h) (fun h => by cases h) (fun h => by cases h) hk0 hk0 hkk0 hkk0 rfl (ng _ (by omega) (by omega)) (ng _ (by omega) (by omega)) (ng _ (by omega) (by omega))
    (by rw [i1, i3, arrV_size]; omega) (by rw [i2, i3, arrV_size]; omega)
    (fun vm1 hal i hi => by
      rw [c3] at hi
      have e9 : (arrV (D.2.1 4) n (fun j => va_rf (g j))).slots.getD ((kI sp).toNatClampNeg + i) .null = va_rf (g (sn + i)) := by
        rw [c1, Array.getD_eq_getD_getElem?, arrV_read _ _ (by omega)]
        rfl
      rw [e9]
      cases hy : g (sn + i) with
      | none => exact ⟨rfl, trivial⟩
      | some y =>
        obtain ⟨fs, hO⟩ := hel i hi y hy
        obtain ⟨cellV, g1, g2, g3⟩ := kx_rc hK hO hc
        obtain ⟨kA9, comp, r1, r2, r3, -⟩ := (hK.va.2 4 _ rfl).2
        cases hk0.symm.trans r1
        cases hkk0.symm.trans r2
        obtain ⟨kC, hkC, -⟩ := Vm.findClass_spec g3
        obtain ⟨kE, hkE, -⟩ := Vm.findClass_spec r3
        obtain ⟨kC2, hkC2, -⟩ := hal.2.2 _ _ hkC
        obtain ⟨kE2, hkE2, -⟩ := hal.2.2 _ _ hkE
        refine ⟨rfl, cellV, (show T.heap[y]? = some cellV by rw [hT]; exact g1), (fun q h => by rw [h] at g2; cases g2), ⟨kC2, hkC2⟩, ⟨kE2, hkE2⟩, ?_⟩
        show vm1.assignable _ _ = true
        rw [hal.assignable]
        exact vb_asgC hcast _ _ r3 g3)
    (g := F0 m pc ls (.int (kI w) :: .int (kI dp) :: .ref a :: .int (kI sp) :: .ref a :: rest)) rfl (by rw [hml]; exact hsz0) (rest := rest) rfl (by rw [hb]; exact dd) hfr (by show 2 * 0 + _ + _ ≤ _; omega)
  have e8 : copied (arrV (D.2.1 4) n (fun j => va_rf (g j))) (arrV (D.2.1 4) n (fun j => va_rf (g j))) (kI sp) (kI dp) (kI w) = arrV (D.2.1 4) n (fun j => va_rf (va_cpy g g sn dn wn j)) := by
    unfold copied
    rw [c1, c2, c3]
    exact va_copied (fun z => va_rf z) _ _ g g h4
  rw [e8] at X9 step
  have hl : a < H.size := (Array.getElem?_eq_some_iff.mp hc0).1
  have hheap : ((T.setVm vm9).setCell a (arrV (D.2.1 4) n (fun j => va_rf (va_cpy g g sn dn wn j)))).heap = H.setIfInBounds a (arrV (D.2.1 4) n (fun j => va_rf (va_cpy g g sn dn wn j))) := by rw [← hT]; rfl
  have oq : ∀ q : Nat, q ≠ a → (H.setIfInBounds a (arrV (D.2.1 4) n (fun j => va_rf (va_cpy g g sn dn wn j))))[q]? = H[q]? := fun q hq => by simp [Array.getElem?_setIfInBounds, Ne.symm hq]
  obtain ⟨t, a1, b1⟩ := kk _ _ (show (H.setIfInBounds a _)[a]? = some _ by simp [Array.getElem?_setIfInBounds, hl]; rfl) ⟨by simp, oq⟩ ⟨by simp; exact hS0.1, fun q g1 g2 => by
      rw [oq q (fun e => g2 (by rw [e]; exact hAa))]
      exact hS0.2.1 q g1 g2, fun q hq => by
      rcases List.mem_append.mp hq with h | h
      · exact hS0.2.2 q h
      · obtain ⟨z, -, hz⟩ := List.mem_map.mp h
        rw [← hz]
        exact hAa⟩ _ hheap X9
  exact ⟨t, step t a1, b1⟩
theorem kx_mmax (hx : p.tables.exec = Jvm.exec) (hb : c.code = cc) {nL : Nat} (hml : c.maxLocals = nL) (hsz0 : ls.size = nL) {own : String} {index : Nat} (hts : ∀ w ∈ lw_all, w.before args s = true) (hown : s.vm.findClass own = some m.cls) (hlink : Cond.methodLink own index Lib.Math.max.name ∈ lw_all) (hstat : Cond.static Lib.Math.max.name ∈ lw_all) (hini : Cond.initialized "java/lang/Math" ∈ lw_all) (hcode : Cond.code Lib.Math.max.name Lib.Math.max.code 2 (some .int) ∈ lw_all)
    (hfr : 1 ≤ R.frames) (hlo : (rest.map fun v => v.category).sum + 13 ≤ R.locals) (hc : cells ≤ R.cells) (hs : slots ≤ R.slots) {x y : Int} (a1 : -2147483648 ≤ x) (a2 : x ≤ 2147483647) (b1 : -2147483648 ≤ y) (b2 : y ≤ 2147483647) (d : decode cc pc = .ok (.invokestatic index, 3))
    (kk : W p l e R s m args below meth c H locs cells slots Q (F0 m (pc + 3) ls (.int (kI (if x < y then y else x)) :: rest))) : W p l e R s m args below meth c H locs cells slots Q (F0 m pc ls (.int (kI y) :: .int (kI x) :: rest)) := by
  refine va_mmax hx hb (by rw [hml]; exact hsz0.symm) hown (hts _ hlink) (hts _ hstat) (hts _ hini) (hts _ hcode) hfr hlo hc hs d ?_
  have e9 : (if kI x < kI y then kI y else kI x) = kI (if x < y then y else x) := by
    by_cases h : x < y
    · rw [if_pos h, if_pos ((kI_lt a1 a2 b1 b2).mpr h)]
    · rw [if_neg h, if_neg (fun z => h ((kI_lt a1 a2 b1 b2).mp z))]
  rw [e9]
  exact kk
theorem kx_mmin (hx : p.tables.exec = Jvm.exec) (hb : c.code = cc) {nL : Nat} (hml : c.maxLocals = nL) (hsz0 : ls.size = nL) {own : String} {index : Nat} (hts : ∀ w ∈ lw_all, w.before args s = true) (hown : s.vm.findClass own = some m.cls) (hlink : Cond.methodLink own index Lib.Math.min.name ∈ lw_all) (hstat : Cond.static Lib.Math.min.name ∈ lw_all) (hini : Cond.initialized "java/lang/Math" ∈ lw_all) (hcode : Cond.code Lib.Math.min.name Lib.Math.min.code 2 (some .int) ∈ lw_all)
    (hfr : 1 ≤ R.frames) (hlo : (rest.map fun v => v.category).sum + 13 ≤ R.locals) (hc : cells ≤ R.cells) (hs : slots ≤ R.slots) {x y : Int} (a1 : -2147483648 ≤ x) (a2 : x ≤ 2147483647) (b1 : -2147483648 ≤ y) (b2 : y ≤ 2147483647) (d : decode cc pc = .ok (.invokestatic index, 3))
    (kk : W p l e R s m args below meth c H locs cells slots Q (F0 m (pc + 3) ls (.int (kI (if y < x then y else x)) :: rest))) : W p l e R s m args below meth c H locs cells slots Q (F0 m pc ls (.int (kI y) :: .int (kI x) :: rest)) := by
  refine va_mmin hx hb (by rw [hml]; exact hsz0.symm) hown (hts _ hlink) (hts _ hstat) (hts _ hini) (hts _ hcode) hfr hlo hc hs d ?_
  have e9 : (if kI y < kI x then kI y else kI x) = kI (if y < x then y else x) := by
    by_cases h : y < x
    · rw [if_pos h, if_pos ((kI_lt b1 b2 a1 a2).mpr h)]
    · rw [if_neg h, if_neg (fun z => h ((kI_lt b1 b2 a1 a2).mp z))]
  rw [e9]
  exact kk
end KX4
set_option maxHeartbeats 4000000 in
set_option maxRecDepth 100000 in
theorem m_J0_init (l : Launch) (D : kG) (H : Heap) (a : Nat) : Met l yJ0_init (ws_ yJ0_init cJ0_init 1 none) ({ frames := 1, cells := 0, slots := 0, locals := 20 } : Room) (kPre D H [.ref a]) (kQv (fun H' => H' = H ∧ True) kNO) (0) (0) (kNO) := by
  refine Met.ofW (cc := cJ0_init) (maxL := 1) (ret := none) (by decide) rfl ?_
  intro p e s m args below meth c s₁ B hml hv
  obtain ⟨rfl, hH, hK⟩ := hv
  subst hH
  have hx := B.exec
  have hb := B.bytes
  have hr := B.returns
  have hts := atoms_spec (ws := ws_ yJ0_init cJ0_init 1 none) B.pre
  have hts : ∀ w ∈ lw_all, w.before _ s = true := fun w h => hts w (List.mem_cons_of_mem _ h)
  have hown : s.vm.findClass RJ0 = some m.cls := findClass_of_methodNamed B.named
  have hlk := B.notSynchronized
  have hin : meth.name = "<init>" := (name_of_methodNamed B.named B.method).1
  have hS : va_S kNO s.heap s.heap [] := va_S.rf
  have hB : ∀ q, kNO q → kBase D ≤ q := fun _ h => h.elim
  have hl := lv_entry ([.ref a]) (n := 1) (Nat.le_of_ble_eq_true rfl)
  rw [lg_entry_eq]
  generalize (lg_sl ([.ref a]) ++ List.replicate (1 - (lg_sl ([.ref a])).length) Slot.unset).toArray = ls at hl ⊢
  have hl : lv_has ls 1 [(0, .ref a)] := hl
  refine lv_aload_n hx hb dJ0_init_0 rfl (lv_at hl 0 rfl) ?_
  refine W.objInit hx hb hown (hts _ q152) (hts _ q133) (hts _ q134) rfl (by rw [hml]; exact hl.1) rfl dJ0_init_1 (Nat.le_of_ble_eq_true rfl) (Nat.le_of_ble_eq_true rfl) ?_
  refine W.eq (g2 := F0 m 4 ls []) rfl ?_
  exact kx_vret hx hb hr hlk (⟨rfl, trivial⟩) hS dJ0_init_4

set_option maxHeartbeats 4000000 in
set_option maxRecDepth 100000 in
theorem m_J1_init (l : Launch) (D : kG) (H : Heap) (la : Nat) (mc : Int) (hO_la : kO D H la 9 [.int (kI (mc)), .null, .int (kI (0))]) (bs_la : kBase D ≤ la) : Met l yJ1_init (ws_ yJ1_init cJ1_init 1 none) ({ frames := 2, cells := 0, slots := 0, locals := 40 } : Room) (kPre D H [.ref la]) (kQv (fun H' => (kO D H' la 9 [.int (kI (0)), .null, .int (kI (0))])) (fun q : Nat => q = la)) (0) (0) ((fun q : Nat => q = la)) := by
  refine Met.ofW (cc := cJ1_init) (maxL := 1) (ret := none) (by decide) rfl ?_
  intro p e s m args below meth c s₁ B hml hv
  obtain ⟨rfl, hH, hK⟩ := hv
  subst hH
  have hx := B.exec
  have hb := B.bytes
  have hr := B.returns
  have hts := atoms_spec (ws := ws_ yJ1_init cJ1_init 1 none) B.pre
  have hts : ∀ w ∈ lw_all, w.before _ s = true := fun w h => hts w (List.mem_cons_of_mem _ h)
  have hown : s.vm.findClass RJ1 = some m.cls := findClass_of_methodNamed B.named
  have hlk := B.notSynchronized
  have hin : meth.name = "<init>" := (name_of_methodNamed B.named B.method).1
  have hS : va_S (fun q : Nat => q = la) s.heap s.heap [] := va_S.rf
  have hB : ∀ q, (fun q : Nat => q = la) q → kBase D ≤ q := fun q h => by (try dsimp only at h); (try simp only [kNW] at h); have hks := hK.size; omega
  have hl := lv_entry ([.ref la]) (n := 1) (Nat.le_of_ble_eq_true rfl)
  rw [lg_entry_eq]
  generalize (lg_sl ([.ref la]) ++ List.replicate (1 - (lg_sl ([.ref la])).length) Slot.unset).toArray = ls at hl ⊢
  have hl : lv_has ls 1 [(0, .ref la)] := hl
  refine lv_aload_n hx hb dJ1_init_0 rfl (lv_at hl 0 rfl) ?_
  refine kx_cv0 (va_runI (As := []) (rest := []) ⟨hx, hb, hml, hown, hts⟩ (m_J0_init l D s.heap la  ) (cwI 0 hts (lw_meth q151) rfl rfl rfl (hts _ q81) (hts _ q149) (hts _ q150) rfl (by decide +kernel) ⟨Nat.le_of_ble_eq_true rfl, Nat.le_of_ble_eq_true rfl⟩) (kx_ps hK hS hB) rfl rfl hl.1 rfl (lv_room (Nat.le_of_ble_eq_true rfl)) dJ1_init_1 ⟨by first | exact Nat.le_of_ble_eq_true rfl | omega | (show _ ≤ _; omega) | (dsimp only [headSpec]; omega), by first | exact Nat.le_of_ble_eq_true rfl | omega | (show _ ≤ _; omega) | (dsimp only [headSpec]; omega)⟩) hS (fun locs_1 hz_3 hS_2 => ?_)
  refine lv_aload_n hx hb dJ1_init_4 rfl (lv_at hl 0 rfl) ?_
  refine kx_iconst hx hb dJ1_init_5 ?_
  refine kx_put (v := .int (kI (0))) (C := RJ2) (T := TJ2) (N := 3) hx hb hts in_J2 hown hK hO_la rfl 0 (by decide) tyJ2 tyJ2_ok nmJ2 hS_2 (by first | rfl | exact Or.inl rfl | exact Or.inr rfl | exact Or.inr (Or.inl rfl) | exact Or.inr (Or.inr rfl) | exact Or.inr (Or.inr (Or.inl rfl)) | exact Or.inr (Or.inr (Or.inr rfl)) | ((try dsimp only); (try simp only [kNW]); omega)) q157 (fun _ h9 => h9) rfl rfl rfl rfl (Nat.le_of_ble_eq_true rfl) dJ1_init_6 (fun H_7 locs_8 hO_6 hU_5 hS_9 => ?_)
  have hO_6 : kO D H_7 la 9 [.int (kI (0)), .null, .int (kI (0))] := hO_6
  have hzu_10 := hU_5.1
  exact kx_vret hx hb hr hlk (hO_6) hS_9 dJ1_init_9

set_option maxHeartbeats 4000000 in
set_option maxRecDepth 100000 in
theorem m_J2_init (l : Launch) (D : kG) (H : Heap) (la : Nat) (hO_la : kO D H la 9 [.int (kI (0)), .null, .int (kI (0))]) (bs_la : kBase D ≤ la) : Met l yJ2_init (ws_ yJ2_init cJ2_init 1 none) ({ frames := 3, cells := 0, slots := 0, locals := 60 } : Room) (kPre D H [.ref la]) (kQv (fun H' => (kO D H' la 9 [.int (kI (0)), .ref (D.2.2.2 2), .int (kI (0))])) (fun q : Nat => q = la)) (0) (0) ((fun q : Nat => q = la)) := by
  refine Met.ofW (cc := cJ2_init) (maxL := 1) (ret := none) (by decide) rfl ?_
  intro p e s m args below meth c s₁ B hml hv
  obtain ⟨rfl, hH, hK⟩ := hv
  subst hH
  have hx := B.exec
  have hb := B.bytes
  have hr := B.returns
  have hts := atoms_spec (ws := ws_ yJ2_init cJ2_init 1 none) B.pre
  have hts : ∀ w ∈ lw_all, w.before _ s = true := fun w h => hts w (List.mem_cons_of_mem _ h)
  have hown : s.vm.findClass RJ2 = some m.cls := findClass_of_methodNamed B.named
  have hlk := B.notSynchronized
  have hin : meth.name = "<init>" := (name_of_methodNamed B.named B.method).1
  have hS : va_S (fun q : Nat => q = la) s.heap s.heap [] := va_S.rf
  have hB : ∀ q, (fun q : Nat => q = la) q → kBase D ≤ q := fun q h => by (try dsimp only at h); (try simp only [kNW] at h); have hks := hK.size; omega
  have hl := lv_entry ([.ref la]) (n := 1) (Nat.le_of_ble_eq_true rfl)
  rw [lg_entry_eq]
  generalize (lg_sl ([.ref la]) ++ List.replicate (1 - (lg_sl ([.ref la])).length) Slot.unset).toArray = ls at hl ⊢
  have hl : lv_has ls 1 [(0, .ref la)] := hl
  refine lv_aload_n hx hb dJ2_init_0 rfl (lv_at hl 0 rfl) ?_
  refine kx_cv (va_runI (As := []) (rest := []) ⟨hx, hb, hml, hown, hts⟩ (m_J1_init l D s.heap la 0 hO_la (by first | assumption | omega)) (cwI 0 hts (lw_meth q148) rfl rfl rfl (hts _ q82) (hts _ q146) (hts _ q147) rfl (by decide +kernel) ⟨Nat.le_of_ble_eq_true rfl, Nat.le_of_ble_eq_true rfl⟩) (kx_ps hK hS hB) rfl rfl hl.1 rfl (lv_room (Nat.le_of_ble_eq_true rfl)) dJ2_init_1 ⟨by first | exact Nat.le_of_ble_eq_true rfl | omega | (show _ ≤ _; omega) | (dsimp only [headSpec]; omega), by first | exact Nat.le_of_ble_eq_true rfl | omega | (show _ ≤ _; omega) | (dsimp only [headSpec]; omega)⟩) hS (fun q _ h => by (try dsimp only at h); (try dsimp only); (try simp only [kNW] at h); (try simp only [kNW]); omega) (fun q h => by (try dsimp only at h); (try dsimp only); (try simp only [kNW] at h); (try simp only [kNW]); omega) (fun H_4 locs_1 hz_3 hF_5 hS_2 => ?_)
  have hzf_7 := hF_5.1
  refine W.widen (k := 0) (n := 0) (Nat.le_of_ble_eq_true rfl) (Nat.le_of_ble_eq_true rfl) ?_
  have ho_8 := hz_3
  refine lv_aload_n hx hb dJ2_init_4 rfl (lv_at hl 0 rfl) ?_
  refine kx_gets (v := .ref (D.2.2.2 2)) hx hb hts hK.sE hS_2 hB hown q153 (fun _ h9 => h9) dJ2_init_5 ?_
  refine kx_put (v := .ref (D.2.2.2 2)) (C := RJ2) (T := TJ2) (N := 3) hx hb hts in_J2 hown hK ho_8 rfl 1 (by decide) tyJ2 tyJ2_ok nmJ2 hS_2 (by first | rfl | exact Or.inl rfl | exact Or.inr rfl | exact Or.inr (Or.inl rfl) | exact Or.inr (Or.inr rfl) | exact Or.inr (Or.inr (Or.inl rfl)) | exact Or.inr (Or.inr (Or.inr rfl)) | ((try dsimp only); (try simp only [kNW]); omega)) q155 (fun _ h9 => h9) rfl rfl rfl rfl (Nat.le_of_ble_eq_true rfl) dJ2_init_8 (fun H_11 locs_12 hO_10 hU_9 hS_13 => ?_)
  have hO_10 : kO D H_11 la 9 [.int (kI (0)), .ref (D.2.2.2 2), .int (kI (0))] := hO_10
  have hzu_14 := hU_9.1
  exact kx_vret hx hb hr hlk (hO_10) hS_13 dJ2_init_11

set_option maxHeartbeats 4000000 in
set_option maxRecDepth 100000 in
theorem m_J2_size (l : Launch) (D : kG) (H : Heap) (la : Nat) (mc : Int) (ea : Nat) (n : Nat) (hO_la : kO D H la 9 [.int (kI (mc)), .ref ea, .int (kI ((n : Nat) : Int))]) : Met l yJ2_size (ws_ yJ2_size cJ2_size 1 (some .int)) ({ frames := 0, cells := 0, slots := 0, locals := 0 } : Room) (kPre D H [.ref la]) (kQi (fun (r : Int) H' => H' = H ∧ r = ((n : Nat) : Int)) kNO) (0) (0) (kNO) := by
  refine Met.ofW (cc := cJ2_size) (maxL := 1) (ret := (some .int)) (by decide) rfl ?_
  intro p e s m args below meth c s₁ B hml hv
  obtain ⟨rfl, hH, hK⟩ := hv
  subst hH
  have hx := B.exec
  have hb := B.bytes
  have hr := B.returns
  have hts := atoms_spec (ws := ws_ yJ2_size cJ2_size 1 (some .int)) B.pre
  have hts : ∀ w ∈ lw_all, w.before _ s = true := fun w h => hts w (List.mem_cons_of_mem _ h)
  have hown : s.vm.findClass RJ2 = some m.cls := findClass_of_methodNamed B.named
  have hlk := B.notSynchronized
  have hS : va_S kNO s.heap s.heap [] := va_S.rf
  have hB : ∀ q, kNO q → kBase D ≤ q := fun _ h => h.elim
  have hl := lv_entry ([.ref la]) (n := 1) (Nat.le_of_ble_eq_true rfl)
  rw [lg_entry_eq]
  generalize (lg_sl ([.ref la]) ++ List.replicate (1 - (lg_sl ([.ref la])).length) Slot.unset).toArray = ls at hl ⊢
  have hl : lv_has ls 1 [(0, .ref la)] := hl
  refine lv_aload_n hx hb dJ2_size_0 rfl (lv_at hl 0 rfl) ?_
  refine kx_get (v := .int (kI ((n : Nat) : Int))) (C := RJ2) (T := TJ2) (N := 3) hx hb hts in_J2 hown hK hO_la rfl 2 (by decide) q156 (fun _ h9 => h9) rfl dJ2_size_1 ?_
  exact kx_iret (z := ((n : Nat) : Int)) hx hb hr hlk (⟨rfl, by rfl⟩) hS dJ2_size_4

set_option maxHeartbeats 4000000 in
set_option maxRecDepth 100000 in
theorem m_J15_checkIndex (l : Launch) (D : kG) (H : Heap) (i : Nat) (n : Nat) (hi : i < n) (hn9 : n < 100000) : Met l yJ15_checkIndex (ws_ yJ15_checkIndex cJ15_checkIndex 3 (some .int)) ({ frames := 0, cells := 0, slots := 0, locals := 0 } : Room) (kPre D H [.int (kI ((i : Nat) : Int)), .int (kI ((n : Nat) : Int)), .null]) (kQi (fun (r : Int) H' => H' = H ∧ r = ((i : Nat) : Int)) kNO) (0) (0) (kNO) := by
  refine Met.ofW (cc := cJ15_checkIndex) (maxL := 3) (ret := (some .int)) (by decide) rfl ?_
  intro p e s m args below meth c s₁ B hml hv
  obtain ⟨rfl, hH, hK⟩ := hv
  subst hH
  have hx := B.exec
  have hb := B.bytes
  have hr := B.returns
  have hts := atoms_spec (ws := ws_ yJ15_checkIndex cJ15_checkIndex 3 (some .int)) B.pre
  have hts : ∀ w ∈ lw_all, w.before _ s = true := fun w h => hts w (List.mem_cons_of_mem _ h)
  have hown : s.vm.findClass RJ15 = some m.cls := findClass_of_methodNamed B.named
  have hlk := B.notSynchronized
  have hS : va_S kNO s.heap s.heap [] := va_S.rf
  have hB : ∀ q, kNO q → kBase D ≤ q := fun _ h => h.elim
  have hl := lv_entry ([.int (kI ((i : Nat) : Int)), .int (kI ((n : Nat) : Int)), .null]) (n := 3) (Nat.le_of_ble_eq_true rfl)
  rw [lg_entry_eq]
  generalize (lg_sl ([.int (kI ((i : Nat) : Int)), .int (kI ((n : Nat) : Int)), .null]) ++ List.replicate (3 - (lg_sl ([.int (kI ((i : Nat) : Int)), .int (kI ((n : Nat) : Int)), .null])).length) Slot.unset).toArray = ls at hl ⊢
  have hl : lv_has ls 3 [(0, .int (kI ((i : Nat) : Int))), (1, .int (kI ((n : Nat) : Int))), (2, .null)] := hl
  refine lv_iload_n hx hb dJ15_checkIndex_0 rfl (lv_at hl 0 rfl) ?_
  refine kx_if_lt (x := ((i : Nat) : Int)) (tgt := 9) hx hb dJ15_checkIndex_1 (by decide) (by omega) (by omega) (fun c_1_1 => ?_) (fun c_1_1 => ?_)
  · -- taken at 1
    exfalso; omega
  · -- not taken at 1
    refine lv_iload_n hx hb dJ15_checkIndex_4 rfl (lv_at hl 0 rfl) ?_
    refine lv_iload_n hx hb dJ15_checkIndex_5 rfl (lv_at hl 1 rfl) ?_
    refine kx_icmp_lt (x := ((i : Nat) : Int)) (y := ((n : Nat) : Int)) (tgt := 16) hx hb dJ15_checkIndex_6 (by decide) (by omega) (by omega) (by omega) (by omega) (fun c_6_2 => ?_) (fun c_6_2 => ?_)
    · -- taken at 6
      refine lv_iload_n hx hb dJ15_checkIndex_16 rfl (lv_at hl 0 rfl) ?_
      exact kx_iret (z := ((i : Nat) : Int)) hx hb hr hlk (⟨rfl, by rfl⟩) hS dJ15_checkIndex_17
    · -- not taken at 6
      exfalso; omega

set_option maxHeartbeats 4000000 in
set_option maxRecDepth 100000 in
theorem m_J14_checkIndex (l : Launch) (D : kG) (H : Heap) (i : Nat) (n : Nat) (hi : i < n) (hn9 : n < 100000) : Met l yJ14_checkIndex (ws_ yJ14_checkIndex cJ14_checkIndex 2 (some .int)) ({ frames := 1, cells := 0, slots := 0, locals := 22 } : Room) (kPre D H [.int (kI ((i : Nat) : Int)), .int (kI ((n : Nat) : Int))]) (kQi (fun (r : Int) H' => H' = H ∧ r = ((i : Nat) : Int)) kNO) (0) (0) (kNO) := by
  refine Met.ofW (cc := cJ14_checkIndex) (maxL := 2) (ret := (some .int)) (by decide) rfl ?_
  intro p e s m args below meth c s₁ B hml hv
  obtain ⟨rfl, hH, hK⟩ := hv
  subst hH
  have hx := B.exec
  have hb := B.bytes
  have hr := B.returns
  have hts := atoms_spec (ws := ws_ yJ14_checkIndex cJ14_checkIndex 2 (some .int)) B.pre
  have hts : ∀ w ∈ lw_all, w.before _ s = true := fun w h => hts w (List.mem_cons_of_mem _ h)
  have hown : s.vm.findClass RJ14 = some m.cls := findClass_of_methodNamed B.named
  have hlk := B.notSynchronized
  have hS : va_S kNO s.heap s.heap [] := va_S.rf
  have hB : ∀ q, kNO q → kBase D ≤ q := fun _ h => h.elim
  have hl := lv_entry ([.int (kI ((i : Nat) : Int)), .int (kI ((n : Nat) : Int))]) (n := 2) (Nat.le_of_ble_eq_true rfl)
  rw [lg_entry_eq]
  generalize (lg_sl ([.int (kI ((i : Nat) : Int)), .int (kI ((n : Nat) : Int))]) ++ List.replicate (2 - (lg_sl ([.int (kI ((i : Nat) : Int)), .int (kI ((n : Nat) : Int))])).length) Slot.unset).toArray = ls at hl ⊢
  have hl : lv_has ls 2 [(0, .int (kI ((i : Nat) : Int))), (1, .int (kI ((n : Nat) : Int)))] := hl
  refine lv_iload_n hx hb dJ14_checkIndex_0 rfl (lv_at hl 0 rfl) ?_
  refine lv_iload_n hx hb dJ14_checkIndex_1 rfl (lv_at hl 1 rfl) ?_
  refine lv_null hx hb dJ14_checkIndex_2 ?_
  refine kx_ci0 (va_runS (As := [.int (kI ((i : Nat) : Int)), .int (kI ((n : Nat) : Int)), .null]) (rest := []) ⟨hx, hb, hml, hown, hts⟩ (m_J15_checkIndex l D s.heap i n  (by first | assumption | omega) (by first | assumption | omega)) (va_cwS 3 hts (lw_S q300 q301 q97 q302) rfl rfl rfl (by decide +kernel) ⟨Nat.le_of_ble_eq_true rfl, Nat.le_of_ble_eq_true rfl⟩) (kx_ps hK hS hB) rfl rfl hl.1 rfl (lv_room (Nat.le_of_ble_eq_true rfl)) dJ14_checkIndex_3 ⟨by first | exact Nat.le_of_ble_eq_true rfl | omega | (show _ ≤ _; omega) | (dsimp only [headSpec]; omega), by first | exact Nat.le_of_ble_eq_true rfl | omega | (show _ ≤ _; omega) | (dsimp only [headSpec]; omega)⟩) hS (fun z_4 locs_1 hz_3 hS_2 => ?_)
  subst z_4
  exact kx_iret (z := ((i : Nat) : Int)) hx hb hr hlk (⟨rfl, by rfl⟩) hS_2 dJ14_checkIndex_6

set_option maxHeartbeats 4000000 in
set_option maxRecDepth 100000 in
theorem m_J2_elementData (l : Launch) (D : kG) (H : Heap) (la : Nat) (mc : Int) (ea : Nat) (n : Nat) (g : Nat → Option Nat) (i : Nat) (b : Nat) (hO_la : kO D H la 9 [.int (kI (mc)), .ref ea, .int (kI ((n : Nat) : Int))]) (hA_ea : kAq D H ea 4 10 g) (hi : i < n) (hn10 : n ≤ 10) (hg : g i = some b) : Met l yJ2_elementData (ws_ yJ2_elementData cJ2_elementData 2 (some (.object "java/lang/Object"))) ({ frames := 0, cells := 0, slots := 0, locals := 0 } : Room) (kPre D H [.ref la, .int (kI ((i : Nat) : Int))]) (kQr (fun (r : Nat) H' => H' = H ∧ r = b) kNO) (0) (0) (kNO) := by
  refine Met.ofW (cc := cJ2_elementData) (maxL := 2) (ret := (some (.object "java/lang/Object"))) (by decide) rfl ?_
  intro p e s m args below meth c s₁ B hml hv
  obtain ⟨rfl, hH, hK⟩ := hv
  subst hH
  have hx := B.exec
  have hb := B.bytes
  have hr := B.returns
  have hts := atoms_spec (ws := ws_ yJ2_elementData cJ2_elementData 2 (some (.object "java/lang/Object"))) B.pre
  have hts : ∀ w ∈ lw_all, w.before _ s = true := fun w h => hts w (List.mem_cons_of_mem _ h)
  have hown : s.vm.findClass RJ2 = some m.cls := findClass_of_methodNamed B.named
  have hlk := B.notSynchronized
  have hS : va_S kNO s.heap s.heap [] := va_S.rf
  have hB : ∀ q, kNO q → kBase D ≤ q := fun _ h => h.elim
  have hl := lv_entry ([.ref la, .int (kI ((i : Nat) : Int))]) (n := 2) (Nat.le_of_ble_eq_true rfl)
  rw [lg_entry_eq]
  generalize (lg_sl ([.ref la, .int (kI ((i : Nat) : Int))]) ++ List.replicate (2 - (lg_sl ([.ref la, .int (kI ((i : Nat) : Int))])).length) Slot.unset).toArray = ls at hl ⊢
  have hl : lv_has ls 2 [(0, .ref la), (1, .int (kI ((i : Nat) : Int)))] := hl
  refine lv_aload_n hx hb dJ2_elementData_0 rfl (lv_at hl 0 rfl) ?_
  refine kx_get (v := .ref ea) (C := RJ2) (T := TJ2) (N := 3) hx hb hts in_J2 hown hK hO_la rfl 1 (by decide) q155 (fun _ h9 => h9) rfl dJ2_elementData_1 ?_
  refine lv_iload_n hx hb dJ2_elementData_4 rfl (lv_at hl 1 rfl) ?_
  refine kx_aald hx hb hK (t := 4) rfl hA_ea i (rfl) (by omega) (by omega) dJ2_elementData_5 ?_
  refine kx_eqq hx hb (b := b) (hg) ?_
  exact kx_aret (z := b) hx hb hr (by first | exact Or.inl ⟨_, rfl⟩ | exact Or.inr ⟨_, rfl⟩) hlk (⟨rfl, by rfl⟩) hS dJ2_elementData_6

set_option maxHeartbeats 4000000 in
set_option maxRecDepth 100000 in
theorem m_J2_get (l : Launch) (D : kG) (H : Heap) (la : Nat) (mc : Int) (ea : Nat) (n : Nat) (g : Nat → Option Nat) (i : Nat) (b : Nat) (hO_la : kO D H la 9 [.int (kI (mc)), .ref ea, .int (kI ((n : Nat) : Int))]) (hA_ea : kAq D H ea 4 10 g) (hi : i < n) (hn10 : n ≤ 10) (hg : g i = some b) : Met l yJ2_get (ws_ yJ2_get cJ2_get 2 (some (.object "java/lang/Object"))) ({ frames := 2, cells := 0, slots := 0, locals := 43 } : Room) (kPre D H [.ref la, .int (kI ((i : Nat) : Int))]) (kQr (fun (r : Nat) H' => H' = H ∧ r = b) kNO) (0) (0) (kNO) := by
  refine Met.ofW (cc := cJ2_get) (maxL := 2) (ret := (some (.object "java/lang/Object"))) (by decide) rfl ?_
  intro p e s m args below meth c s₁ B hml hv
  obtain ⟨rfl, hH, hK⟩ := hv
  subst hH
  have hx := B.exec
  have hb := B.bytes
  have hr := B.returns
  have hts := atoms_spec (ws := ws_ yJ2_get cJ2_get 2 (some (.object "java/lang/Object"))) B.pre
  have hts : ∀ w ∈ lw_all, w.before _ s = true := fun w h => hts w (List.mem_cons_of_mem _ h)
  have hown : s.vm.findClass RJ2 = some m.cls := findClass_of_methodNamed B.named
  have hlk := B.notSynchronized
  have hS : va_S kNO s.heap s.heap [] := va_S.rf
  have hB : ∀ q, kNO q → kBase D ≤ q := fun _ h => h.elim
  have hl := lv_entry ([.ref la, .int (kI ((i : Nat) : Int))]) (n := 2) (Nat.le_of_ble_eq_true rfl)
  rw [lg_entry_eq]
  generalize (lg_sl ([.ref la, .int (kI ((i : Nat) : Int))]) ++ List.replicate (2 - (lg_sl ([.ref la, .int (kI ((i : Nat) : Int))])).length) Slot.unset).toArray = ls at hl ⊢
  have hl : lv_has ls 2 [(0, .ref la), (1, .int (kI ((i : Nat) : Int)))] := hl
  refine lv_iload_n hx hb dJ2_get_0 rfl (lv_at hl 1 rfl) ?_
  refine lv_aload_n hx hb dJ2_get_1 rfl (lv_at hl 0 rfl) ?_
  refine kx_get (v := .int (kI ((n : Nat) : Int))) (C := RJ2) (T := TJ2) (N := 3) hx hb hts in_J2 hown hK hO_la rfl 2 (by decide) q156 (fun _ h9 => h9) rfl dJ2_get_2 ?_
  refine kx_ci0 (va_runS (As := [.int (kI ((i : Nat) : Int)), .int (kI ((n : Nat) : Int))]) (rest := []) ⟨hx, hb, hml, hown, hts⟩ (m_J14_checkIndex l D s.heap i n  (by first | assumption | omega) (by first | assumption | omega)) (va_cwS 2 hts (lw_S q297 q298 q96 q299) rfl rfl rfl (by decide +kernel) ⟨Nat.le_of_ble_eq_true rfl, Nat.le_of_ble_eq_true rfl⟩) (kx_ps hK hS hB) rfl rfl hl.1 rfl (lv_room (Nat.le_of_ble_eq_true rfl)) dJ2_get_5 ⟨by first | exact Nat.le_of_ble_eq_true rfl | omega | (show _ ≤ _; omega) | (dsimp only [headSpec]; omega), by first | exact Nat.le_of_ble_eq_true rfl | omega | (show _ ≤ _; omega) | (dsimp only [headSpec]; omega)⟩) hS (fun z_4 locs_1 hz_3 hS_2 => ?_)
  subst z_4
  refine lv_pop hx hb dJ2_get_8 rfl ?_
  refine lv_aload_n hx hb dJ2_get_9 rfl (lv_at hl 0 rfl) ?_
  refine lv_iload_n hx hb dJ2_get_10 rfl (lv_at hl 1 rfl) ?_
  refine kx_cr0 (va_runV (As := [.int (kI ((i : Nat) : Int))]) (rest := []) ⟨hx, hb, hml, hown, hts⟩ (m_J2_elementData l D s.heap la mc ea n g i b hO_la hA_ea (by first | assumption | omega) (by first | assumption | omega) (by first | assumption | omega)) (cwV 1 hts (lw_V q303 q304 q305 q83 q306) rfl rfl rfl (by decide +kernel) ⟨Nat.le_of_ble_eq_true rfl, Nat.le_of_ble_eq_true rfl⟩) (kx_pv hK hS_2 hB (kx_rc hK hO_la (C := RJ2) (T := TJ2) (N := 3) rfl)) rfl rfl hl.1 rfl (lv_room (Nat.le_of_ble_eq_true rfl)) dJ2_get_11 ⟨by first | exact Nat.le_of_ble_eq_true rfl | omega | (show _ ≤ _; omega) | (dsimp only [headSpec]; omega), by first | exact Nat.le_of_ble_eq_true rfl | omega | (show _ ≤ _; omega) | (dsimp only [headSpec]; omega)⟩) hS_2 (fun z_8 locs_5 hz_7 hS_6 => ?_)
  subst z_8
  exact kx_aret (z := b) hx hb hr (by first | exact Or.inl ⟨_, rfl⟩ | exact Or.inr ⟨_, rfl⟩) hlk (⟨rfl, by rfl⟩) hS_6 dJ2_get_14

set_option maxHeartbeats 4000000 in
set_option maxRecDepth 100000 in
theorem m_J2_grow_2 (l : Launch) (D : kG) (H : Heap) (la : Nat) (mc : Int) (hO_la : kO D H la 9 [.int (kI (mc)), .ref (D.2.2.2 2), .int (kI (0))]) (bs_la : kBase D ≤ la) : Met l yJ2_grow_2 (ws_ yJ2_grow_2 cJ2_grow_2 4 (some (.array (.object "java/lang/Object")))) ({ frames := 1, cells := 1, slots := 10, locals := 30 } : Room) (kPre D H [.ref la, .int (kI (1))]) (kQr (fun (r : Nat) H' => (kO D H' la 9 [.int (kI (mc)), .ref r, .int (kI (0))]) ∧ (kAq D H' r 4 10 ((fun _ => none))) ∧ (H.size ≤ r)) (fun q : Nat => q = la ∨ H.size ≤ q)) (1) (10) ((fun q : Nat => q = la ∨ H.size ≤ q)) := by
  refine Met.ofW (cc := cJ2_grow_2) (maxL := 4) (ret := (some (.array (.object "java/lang/Object")))) (by decide) rfl ?_
  intro p e s m args below meth c s₁ B hml hv
  obtain ⟨rfl, hH, hK⟩ := hv
  subst hH
  have hx := B.exec
  have hb := B.bytes
  have hr := B.returns
  have hts := atoms_spec (ws := ws_ yJ2_grow_2 cJ2_grow_2 4 (some (.array (.object "java/lang/Object")))) B.pre
  have hts : ∀ w ∈ lw_all, w.before _ s = true := fun w h => hts w (List.mem_cons_of_mem _ h)
  have hown : s.vm.findClass RJ2 = some m.cls := findClass_of_methodNamed B.named
  have hlk := B.notSynchronized
  have hS : va_S (fun q : Nat => q = la ∨ s.heap.size ≤ q) s.heap s.heap [] := va_S.rf
  have hB : ∀ q, (fun q : Nat => q = la ∨ s.heap.size ≤ q) q → kBase D ≤ q := fun q h => by (try dsimp only at h); (try simp only [kNW] at h); have hks := hK.size; omega
  have hl := lv_entry ([.ref la, .int (kI (1))]) (n := 4) (Nat.le_of_ble_eq_true rfl)
  rw [lg_entry_eq]
  generalize (lg_sl ([.ref la, .int (kI (1))]) ++ List.replicate (4 - (lg_sl ([.ref la, .int (kI (1))])).length) Slot.unset).toArray = ls at hl ⊢
  have hl : lv_has ls 4 [(0, .ref la), (1, .int (kI (1)))] := hl
  have hlt0 := hO_la.lt
  refine lv_aload_n hx hb dJ2_grow_2_0 rfl (lv_at hl 0 rfl) ?_
  refine kx_get (v := .ref (D.2.2.2 2)) (C := RJ2) (T := TJ2) (N := 3) hx hb hts in_J2 hown hK hO_la rfl 1 (by decide) q155 (fun _ h9 => h9) rfl dJ2_grow_2_1 ?_
  refine kx_tlen hx hb hK.tE hS hB dJ2_grow_2_4 ?_
  refine lv_istore_n (lv' := [(2, .int (kI ((0 : Nat) : Int))), (0, .ref la), (1, .int (kI (1)))]) hx hb dJ2_grow_2_5 rfl hl (by decide) rfl (fun ls hl => ?_)
  refine lv_iload_n hx hb dJ2_grow_2_6 rfl (lv_at hl 0 rfl) ?_
  refine kx_if_gt (x := ((0 : Nat) : Int)) (tgt := 20) hx hb dJ2_grow_2_7 (by decide) (by omega) (by omega) (fun c_7_1 => ?_) (fun c_7_1 => ?_)
  · -- taken at 7
    exfalso; omega
  · -- not taken at 7
    refine lv_aload_n hx hb dJ2_grow_2_10 rfl (lv_at hl 1 rfl) ?_
    refine kx_get (v := .ref (D.2.2.2 2)) (C := RJ2) (T := TJ2) (N := 3) hx hb hts in_J2 hown hK hO_la rfl 1 (by decide) q155 (fun _ h9 => h9) rfl dJ2_grow_2_11 ?_
    refine kx_gets (v := .ref (D.2.2.2 2)) hx hb hts hK.sE hS hB hown q153 (fun _ h9 => h9) dJ2_grow_2_14 ?_
    refine lv_acmp_eq (rx := some (D.2.2.2 2)) (ry := some (D.2.2.2 2)) (tgt := 45) hx hb dJ2_grow_2_17 (by decide) (fun ca_2 => ?_) (fun ca_2 => absurd (by rfl) ca_2)
    refine lv_aload_n hx hb dJ2_grow_2_45 rfl (lv_at hl 1 rfl) ?_
    refine kx_bipush hx hb (by decide) dJ2_grow_2_46 ?_
    refine lv_iload_n hx hb dJ2_grow_2_48 rfl (lv_at hl 2 rfl) ?_
    refine kx_mmax (x := 10) (y := 1) hx hb hml hl.1 hts hown q438 q389 q102 q390 (by first | exact Nat.le_of_ble_eq_true rfl | omega | (show _ ≤ _; omega) | (dsimp only [headSpec]; omega)) (by first | exact Nat.le_of_ble_eq_true rfl | omega | (show _ ≤ _; omega) | (dsimp only [headSpec]; omega)) (by first | exact Nat.le_of_ble_eq_true rfl | omega | (show _ ≤ _; omega) | (dsimp only [headSpec]; omega)) (by first | exact Nat.le_of_ble_eq_true rfl | omega | (show _ ≤ _; omega) | (dsimp only [headSpec]; omega)) (by omega) (by omega) (by omega) (by omega) dJ2_grow_2_49 ?_
    refine kx_eqi (((10 : Nat) : Int)) (by decide) ?_
    refine kx_anew (t := 4) (N' := 10) hx hb hts hown q439 hK (by decide) rfl hS (by first | rfl | omega) (by omega) (by first | exact Nat.le_of_ble_eq_true rfl | omega | (show _ ≤ _; omega) | (dsimp only [headSpec]; omega)) (by first | exact Nat.le_of_ble_eq_true rfl | omega | (show _ ≤ _; omega) | (dsimp only [headSpec]; omega)) dJ2_grow_2_52 (fun na_3 H_4 hq_5 hz_6 hA_7 hE_8 hS_9 => ?_)
    have hge_na_3 : s.heap.size ≤ na_3 := by rw [hq_5]; exact hS.1
    refine W.widen (k := 1) (n := 10) (Nat.le_of_ble_eq_true rfl) (Nat.le_of_ble_eq_true rfl) ?_
    refine lv_dup_x1 hx hb dJ2_grow_2_55 rfl rfl ?_
    have h_10 := hO_la.ex hE_8
    refine kx_put (v := .ref na_3) (C := RJ2) (T := TJ2) (N := 3) hx hb hts in_J2 hown hK h_10 rfl 1 (by decide) tyJ2 tyJ2_ok nmJ2 hS_9 (by first | rfl | exact Or.inl rfl | exact Or.inr rfl | exact Or.inr (Or.inl rfl) | exact Or.inr (Or.inr rfl) | exact Or.inr (Or.inr (Or.inl rfl)) | exact Or.inr (Or.inr (Or.inr rfl)) | ((try dsimp only); (try simp only [kNW]); omega)) q155 (fun _ h9 => h9) rfl rfl rfl rfl (Nat.le_of_ble_eq_true rfl) dJ2_grow_2_56 (fun H_13 locs_14 hO_12 hU_11 hS_15 => ?_)
    have hO_12 : kO D H_13 la 9 [.int (kI (mc)), .ref na_3, .int (kI (0))] := hO_12
    have hzu_16 := hU_11.1
    have h_17 := hA_7.up hU_11 (by first | assumption | exact Ne.symm (by assumption) | omega | (have h9 := hA_7.lt; omega))
    exact kx_aret (z := na_3) hx hb hr (by first | exact Or.inl ⟨_, rfl⟩ | exact Or.inr ⟨_, rfl⟩) hlk (⟨hO_12, h_17, by first | assumption | rfl | omega | grind⟩) hS_15 dJ2_grow_2_59

set_option maxHeartbeats 4000000 in
set_option maxRecDepth 100000 in
theorem m_J2_grow (l : Launch) (D : kG) (H : Heap) (la : Nat) (mc : Int) (hO_la : kO D H la 9 [.int (kI (mc)), .ref (D.2.2.2 2), .int (kI (0))]) (bs_la : kBase D ≤ la) : Met l yJ2_grow (ws_ yJ2_grow cJ2_grow 1 (some (.array (.object "java/lang/Object")))) ({ frames := 2, cells := 1, slots := 10, locals := 53 } : Room) (kPre D H [.ref la]) (kQr (fun (r : Nat) H' => (kO D H' la 9 [.int (kI (mc)), .ref r, .int (kI (0))]) ∧ (kAq D H' r 4 10 ((fun _ => none))) ∧ (H.size ≤ r)) (fun q : Nat => q = la ∨ H.size ≤ q)) (1) (10) ((fun q : Nat => q = la ∨ H.size ≤ q)) := by
  refine Met.ofW (cc := cJ2_grow) (maxL := 1) (ret := (some (.array (.object "java/lang/Object")))) (by decide) rfl ?_
  intro p e s m args below meth c s₁ B hml hv
  obtain ⟨rfl, hH, hK⟩ := hv
  subst hH
  have hx := B.exec
  have hb := B.bytes
  have hr := B.returns
  have hts := atoms_spec (ws := ws_ yJ2_grow cJ2_grow 1 (some (.array (.object "java/lang/Object")))) B.pre
  have hts : ∀ w ∈ lw_all, w.before _ s = true := fun w h => hts w (List.mem_cons_of_mem _ h)
  have hown : s.vm.findClass RJ2 = some m.cls := findClass_of_methodNamed B.named
  have hlk := B.notSynchronized
  have hS : va_S (fun q : Nat => q = la ∨ s.heap.size ≤ q) s.heap s.heap [] := va_S.rf
  have hB : ∀ q, (fun q : Nat => q = la ∨ s.heap.size ≤ q) q → kBase D ≤ q := fun q h => by (try dsimp only at h); (try simp only [kNW] at h); have hks := hK.size; omega
  have hl := lv_entry ([.ref la]) (n := 1) (Nat.le_of_ble_eq_true rfl)
  rw [lg_entry_eq]
  generalize (lg_sl ([.ref la]) ++ List.replicate (1 - (lg_sl ([.ref la])).length) Slot.unset).toArray = ls at hl ⊢
  have hl : lv_has ls 1 [(0, .ref la)] := hl
  have hlt0 := hO_la.lt
  refine lv_aload_n hx hb dJ2_grow_0 rfl (lv_at hl 0 rfl) ?_
  refine lv_aload_n hx hb dJ2_grow_1 rfl (lv_at hl 0 rfl) ?_
  refine kx_get (v := .int (kI (0))) (C := RJ2) (T := TJ2) (N := 3) hx hb hts in_J2 hown hK hO_la rfl 2 (by decide) q156 (fun _ h9 => h9) rfl dJ2_grow_2 ?_
  refine kx_iconst hx hb dJ2_grow_5 ?_
  refine kx_iadd hx hb dJ2_grow_6 ?_
  refine kx_cr (va_runV (As := [.int (kI (1))]) (rest := []) ⟨hx, hb, hml, hown, hts⟩ (m_J2_grow_2 l D s.heap la mc hO_la (by first | assumption | omega)) (cwV 1 hts (lw_V q381 q383 qs3 q83 q384) rfl rfl rfl (by decide +kernel) ⟨Nat.le_of_ble_eq_true rfl, Nat.le_of_ble_eq_true rfl⟩) (kx_pv hK hS hB (kx_rc hK hO_la (C := RJ2) (T := TJ2) (N := 3) rfl)) rfl rfl hl.1 rfl (lv_room (Nat.le_of_ble_eq_true rfl)) dJ2_grow_7 ⟨by first | exact Nat.le_of_ble_eq_true rfl | omega | (show _ ≤ _; omega) | (dsimp only [headSpec]; omega), by first | exact Nat.le_of_ble_eq_true rfl | omega | (show _ ≤ _; omega) | (dsimp only [headSpec]; omega)⟩) hS (fun q _ h => by (try dsimp only at h); (try dsimp only); (try simp only [kNW] at h); (try simp only [kNW]); omega) (fun q h => by (try dsimp only at h); (try dsimp only); (try simp only [kNW] at h); (try simp only [kNW]); omega) (fun z_6 H_4 locs_1 hz_3 hF_5 hS_2 => ?_)
  have hzf_7 := hF_5.1
  refine W.widen (k := 1) (n := 10) (Nat.le_of_ble_eq_true rfl) (Nat.le_of_ble_eq_true rfl) ?_
  obtain ⟨ho_8, ho_9, hnew_10⟩ := hz_3
  exact kx_aret (z := z_6) hx hb hr (by first | exact Or.inl ⟨_, rfl⟩ | exact Or.inr ⟨_, rfl⟩) hlk (⟨ho_8, ho_9, by first | assumption | rfl | omega | grind⟩) hS_2 dJ2_grow_10

set_option maxHeartbeats 4000000 in
set_option maxRecDepth 100000 in
theorem m_J2_add_2_r (l : Launch) (D : kG) (H : Heap) (la : Nat) (mc : Int) (ea : Nat) (n : Nat) (g : Nat → Option Nat) (v : Nat) (vfs : List Value) (hO_la : kO D H la 9 [.int (kI (mc)), .ref ea, .int (kI ((n : Nat) : Int))]) (hA_ea : kAq D H ea 4 10 g) (hO_v : kO D H v 3 vfs) (ne_la_ea : la ≠ ea) (bs_la : kBase D ≤ la) (bs_ea : kBase D ≤ ea) (hn10 : n < 10) : Met l yJ2_add_2 (ws_ yJ2_add_2 cJ2_add_2 4 none) ({ frames := 0, cells := 0, slots := 0, locals := 0 } : Room) (kPre D H [.ref la, .ref v, .ref ea, .int (kI ((n : Nat) : Int))]) (kQv (fun H' => (kO D H' la 9 [.int (kI (mc)), .ref ea, .int (kI ((n + 1 : Nat) : Int))]) ∧ (kAq D H' ea 4 10 (kupq g n (some v)))) (fun q : Nat => q = la ∨ q = ea)) (0) (0) ((fun q : Nat => q = la ∨ q = ea)) := by
  refine Met.ofW (cc := cJ2_add_2) (maxL := 4) (ret := none) (by decide) rfl ?_
  intro p e s m args below meth c s₁ B hml hv
  obtain ⟨rfl, hH, hK⟩ := hv
  subst hH
  have hx := B.exec
  have hb := B.bytes
  have hr := B.returns
  have hts := atoms_spec (ws := ws_ yJ2_add_2 cJ2_add_2 4 none) B.pre
  have hts : ∀ w ∈ lw_all, w.before _ s = true := fun w h => hts w (List.mem_cons_of_mem _ h)
  have hown : s.vm.findClass RJ2 = some m.cls := findClass_of_methodNamed B.named
  have hlk := B.notSynchronized
  have hS : va_S (fun q : Nat => q = la ∨ q = ea) s.heap s.heap [] := va_S.rf
  have hB : ∀ q, (fun q : Nat => q = la ∨ q = ea) q → kBase D ≤ q := fun q h => by (try dsimp only at h); (try simp only [kNW] at h); have hks := hK.size; omega
  have hl := lv_entry ([.ref la, .ref v, .ref ea, .int (kI ((n : Nat) : Int))]) (n := 4) (Nat.le_of_ble_eq_true rfl)
  rw [lg_entry_eq]
  generalize (lg_sl ([.ref la, .ref v, .ref ea, .int (kI ((n : Nat) : Int))]) ++ List.replicate (4 - (lg_sl ([.ref la, .ref v, .ref ea, .int (kI ((n : Nat) : Int))])).length) Slot.unset).toArray = ls at hl ⊢
  have hl : lv_has ls 4 [(0, .ref la), (1, .ref v), (2, .ref ea), (3, .int (kI ((n : Nat) : Int)))] := hl
  refine lv_iload_n hx hb dJ2_add_2_0 rfl (lv_at hl 3 rfl) ?_
  refine lv_aload_n hx hb dJ2_add_2_1 rfl (lv_at hl 2 rfl) ?_
  refine kx_alen hx hb hK hA_ea rfl dJ2_add_2_2 ?_
  refine kx_icmp_ne (x := ((n : Nat) : Int)) (y := ((10 : Nat) : Int)) (tgt := 11) hx hb dJ2_add_2_3 (by decide) (by omega) (by omega) (by omega) (by omega) (fun c_3_1 => ?_) (fun c_3_1 => ?_)
  · -- taken at 3
    refine lv_aload_n hx hb dJ2_add_2_11 rfl (lv_at hl 2 rfl) ?_
    refine lv_iload_n hx hb dJ2_add_2_12 rfl (lv_at hl 3 rfl) ?_
    refine lv_aload_n hx hb dJ2_add_2_13 rfl (lv_at hl 1 rfl) ?_
    refine kx_aast hx hb hK (t := 4) rfl hA_ea hS (by first | rfl | exact Or.inl rfl | exact Or.inr rfl | exact Or.inr (Or.inl rfl) | exact Or.inr (Or.inr rfl) | exact Or.inr (Or.inr (Or.inl rfl)) | exact Or.inr (Or.inr (Or.inr rfl)) | ((try dsimp only); (try simp only [kNW]); omega)) n (rfl) (by omega) (by omega) (kx_rc hK hO_v (C := RX4) (T := TX4) (N := 6) rfl) (vb_asgC (hK.w q2677 rfl)) dJ2_add_2_14 (fun H_4 locs_5 hA_3 hU_2 hS_6 => ?_)
    have hzu_7 := hU_2.1
    refine lv_aload_n hx hb dJ2_add_2_15 rfl (lv_at hl 0 rfl) ?_
    refine lv_iload_n hx hb dJ2_add_2_16 rfl (lv_at hl 3 rfl) ?_
    refine kx_iconst hx hb dJ2_add_2_17 ?_
    refine kx_iadd hx hb dJ2_add_2_18 ?_
    refine kx_eqi (((n + 1 : Nat) : Int)) (by omega) ?_
    have h_8 := hO_la.up hU_2 (by first | assumption | exact Ne.symm (by assumption) | omega | (have h9 := hO_la.lt; omega))
    refine kx_put (v := .int (kI ((n + 1 : Nat) : Int))) (C := RJ2) (T := TJ2) (N := 3) hx hb hts in_J2 hown hK h_8 rfl 2 (by decide) tyJ2 tyJ2_ok nmJ2 hS_6 (by first | rfl | exact Or.inl rfl | exact Or.inr rfl | exact Or.inr (Or.inl rfl) | exact Or.inr (Or.inr rfl) | exact Or.inr (Or.inr (Or.inl rfl)) | exact Or.inr (Or.inr (Or.inr rfl)) | ((try dsimp only); (try simp only [kNW]); omega)) q156 (fun _ h9 => h9) rfl rfl rfl rfl (Nat.le_of_ble_eq_true rfl) dJ2_add_2_19 (fun H_11 locs_12 hO_10 hU_9 hS_13 => ?_)
    have hO_10 : kO D H_11 la 9 [.int (kI (mc)), .ref ea, .int (kI ((n + 1 : Nat) : Int))] := hO_10
    have hzu_14 := hU_9.1
    have h_15 := hA_3.up hU_9 (by first | assumption | exact Ne.symm (by assumption) | omega | (have h9 := hA_3.lt; omega))
    exact kx_vret hx hb hr hlk (⟨hO_10, h_15⟩) hS_13 dJ2_add_2_22
  · -- not taken at 3
    exfalso; omega

set_option maxHeartbeats 4000000 in
set_option maxRecDepth 100000 in
theorem m_J2_add_r (l : Launch) (D : kG) (H : Heap) (la : Nat) (mc : Int) (ea : Nat) (n : Nat) (g : Nat → Option Nat) (v : Nat) (vfs : List Value) (hO_la : kO D H la 9 [.int (kI (mc)), .ref ea, .int (kI ((n : Nat) : Int))]) (hA_ea : kAq D H ea 4 10 g) (hO_v : kO D H v 3 vfs) (ne_la_ea : la ≠ ea) (ne_v_la : v ≠ la) (bs_la : kBase D ≤ la) (bs_ea : kBase D ≤ ea) (hn10 : n < 10) : Met l yJ2_add (ws_ yJ2_add cJ2_add 2 (some .boolean)) ({ frames := 1, cells := 0, slots := 0, locals := 23 } : Room) (kPre D H [.ref la, .ref v]) (kQb (fun (r : Bool) H' => (r = true) ∧ (kO D H' la 9 [.int (kI ((mc + 1))), .ref ea, .int (kI ((n + 1 : Nat) : Int))]) ∧ (kAq D H' ea 4 10 (kupq g n (some v)))) (fun q : Nat => q = la ∨ q = ea)) (0) (0) ((fun q : Nat => q = la ∨ q = ea)) := by
  refine Met.ofW (cc := cJ2_add) (maxL := 2) (ret := (some .boolean)) (by decide) rfl ?_
  intro p e s m args below meth c s₁ B hml hv
  obtain ⟨rfl, hH, hK⟩ := hv
  subst hH
  have hx := B.exec
  have hb := B.bytes
  have hr := B.returns
  have hts := atoms_spec (ws := ws_ yJ2_add cJ2_add 2 (some .boolean)) B.pre
  have hts : ∀ w ∈ lw_all, w.before _ s = true := fun w h => hts w (List.mem_cons_of_mem _ h)
  have hown : s.vm.findClass RJ2 = some m.cls := findClass_of_methodNamed B.named
  have hlk := B.notSynchronized
  have hS : va_S (fun q : Nat => q = la ∨ q = ea) s.heap s.heap [] := va_S.rf
  have hB : ∀ q, (fun q : Nat => q = la ∨ q = ea) q → kBase D ≤ q := fun q h => by (try dsimp only at h); (try simp only [kNW] at h); have hks := hK.size; omega
  have hl := lv_entry ([.ref la, .ref v]) (n := 2) (Nat.le_of_ble_eq_true rfl)
  rw [lg_entry_eq]
  generalize (lg_sl ([.ref la, .ref v]) ++ List.replicate (2 - (lg_sl ([.ref la, .ref v])).length) Slot.unset).toArray = ls at hl ⊢
  have hl : lv_has ls 2 [(0, .ref la), (1, .ref v)] := hl
  refine lv_aload_n hx hb dJ2_add_0 rfl (lv_at hl 0 rfl) ?_
  refine lv_dup hx hb dJ2_add_1 rfl ?_
  refine kx_get (v := .int (kI (mc))) (C := RJ2) (T := TJ2) (N := 3) hx hb hts in_J2 hown hK hO_la rfl 0 (by decide) q158 (fun x h9 => u_same (hts _ q159) x h9) rfl dJ2_add_2 ?_
  refine kx_iconst hx hb dJ2_add_5 ?_
  refine kx_iadd hx hb dJ2_add_6 ?_
  refine kx_put (v := .int (kI ((mc + 1)))) (C := RJ2) (T := TJ2) (N := 3) hx hb hts in_J2 hown hK hO_la rfl 0 (by decide) tyJ2 tyJ2_ok nmJ2 hS (by first | rfl | exact Or.inl rfl | exact Or.inr rfl | exact Or.inr (Or.inl rfl) | exact Or.inr (Or.inr rfl) | exact Or.inr (Or.inr (Or.inl rfl)) | exact Or.inr (Or.inr (Or.inr rfl)) | ((try dsimp only); (try simp only [kNW]); omega)) q158 (fun x h9 => u_same (hts _ q159) x h9) rfl rfl rfl rfl (Nat.le_of_ble_eq_true rfl) dJ2_add_7 (fun H_3 locs_4 hO_2 hU_1 hS_5 => ?_)
  have hO_2 : kO D H_3 la 9 [.int (kI ((mc + 1))), .ref ea, .int (kI ((n : Nat) : Int))] := hO_2
  have hzu_6 := hU_1.1
  refine lv_aload_n hx hb dJ2_add_10 rfl (lv_at hl 0 rfl) ?_
  refine lv_aload_n hx hb dJ2_add_11 rfl (lv_at hl 1 rfl) ?_
  refine lv_aload_n hx hb dJ2_add_12 rfl (lv_at hl 0 rfl) ?_
  refine kx_get (v := .ref ea) (C := RJ2) (T := TJ2) (N := 3) hx hb hts in_J2 hown hK hO_2 rfl 1 (by decide) q155 (fun _ h9 => h9) rfl dJ2_add_13 ?_
  refine lv_aload_n hx hb dJ2_add_16 rfl (lv_at hl 0 rfl) ?_
  refine kx_get (v := .int (kI ((n : Nat) : Int))) (C := RJ2) (T := TJ2) (N := 3) hx hb hts in_J2 hown hK hO_2 rfl 2 (by decide) q156 (fun _ h9 => h9) rfl dJ2_add_17 ?_
  have h_7 := hA_ea.up hU_1 (by first | assumption | exact Ne.symm (by assumption) | omega | (have h9 := hA_ea.lt; omega))
  have h_8 := hO_v.up hU_1 (by first | assumption | exact Ne.symm (by assumption) | omega | (have h9 := hO_v.lt; omega))
  refine kx_cv (va_runV (As := [.ref v, .ref ea, .int (kI ((n : Nat) : Int))]) (rest := []) ⟨hx, hb, hml, hown, hts⟩ (m_J2_add_2_r l D H_3 la ((mc + 1)) ea n g v vfs hO_2 h_7 h_8 (by first | assumption | omega) (by first | assumption | omega) (by first | assumption | omega) (by first | assumption | omega)) (cwV 3 hts (lw_V q373 q375 qs1 q83 q376) rfl rfl rfl (by decide +kernel) ⟨Nat.le_of_ble_eq_true rfl, Nat.le_of_ble_eq_true rfl⟩) (kx_pv hK hS_5 hB (kx_rc hK hO_2 (C := RJ2) (T := TJ2) (N := 3) rfl)) rfl rfl hl.1 rfl (lv_room (Nat.le_of_ble_eq_true rfl)) dJ2_add_20 ⟨by first | exact Nat.le_of_ble_eq_true rfl | omega | (show _ ≤ _; omega) | (dsimp only [headSpec]; omega), by first | exact Nat.le_of_ble_eq_true rfl | omega | (show _ ≤ _; omega) | (dsimp only [headSpec]; omega)⟩) hS_5 (fun q _ h => by (try dsimp only at h); (try dsimp only); (try simp only [kNW] at h); (try simp only [kNW]); omega) (fun q h => by (try dsimp only at h); (try dsimp only); (try simp only [kNW] at h); (try simp only [kNW]); omega) (fun H_12 locs_9 hz_11 hF_13 hS_10 => ?_)
  have hzf_15 := hF_13.1
  refine W.widen (k := 0) (n := 0) (Nat.le_of_ble_eq_true rfl) (Nat.le_of_ble_eq_true rfl) ?_
  obtain ⟨ho_16, ho_17⟩ := hz_11
  refine kx_iconst hx hb dJ2_add_23 ?_
  exact kx_zret (z := true) hx hb hr hlk (⟨by rfl, ho_16, ho_17⟩) hS_10 dJ2_add_24

set_option maxHeartbeats 4000000 in
set_option maxRecDepth 100000 in
theorem m_J2_add_2_0 (l : Launch) (D : kG) (H : Heap) (la : Nat) (mc : Int) (v : Nat) (vfs : List Value) (hO_la : kO D H la 9 [.int (kI (mc)), .ref (D.2.2.2 2), .int (kI (0))]) (hO_v : kO D H v 3 vfs) (bs_la : kBase D ≤ la) (ne_v_la : v ≠ la) : Met l yJ2_add_2 (ws_ yJ2_add_2 cJ2_add_2 4 none) ({ frames := 3, cells := 1, slots := 10, locals := 73 } : Room) (kPre D H [.ref la, .ref v, .ref (D.2.2.2 2), .int (kI (0))]) (kQv (fun H' => ∃ (ea : Nat), (kO D H' la 9 [.int (kI (mc)), .ref ea, .int (kI ((1 : Nat) : Int))]) ∧ (kAq D H' ea 4 10 (kupq (fun _ => none) 0 (some v))) ∧ (H.size ≤ ea)) (fun q : Nat => q = la ∨ H.size ≤ q)) (1) (10) ((fun q : Nat => q = la ∨ H.size ≤ q)) := by
  refine Met.ofW (cc := cJ2_add_2) (maxL := 4) (ret := none) (by decide) rfl ?_
  intro p e s m args below meth c s₁ B hml hv
  obtain ⟨rfl, hH, hK⟩ := hv
  subst hH
  have hx := B.exec
  have hb := B.bytes
  have hr := B.returns
  have hts := atoms_spec (ws := ws_ yJ2_add_2 cJ2_add_2 4 none) B.pre
  have hts : ∀ w ∈ lw_all, w.before _ s = true := fun w h => hts w (List.mem_cons_of_mem _ h)
  have hown : s.vm.findClass RJ2 = some m.cls := findClass_of_methodNamed B.named
  have hlk := B.notSynchronized
  have hS : va_S (fun q : Nat => q = la ∨ s.heap.size ≤ q) s.heap s.heap [] := va_S.rf
  have hB : ∀ q, (fun q : Nat => q = la ∨ s.heap.size ≤ q) q → kBase D ≤ q := fun q h => by (try dsimp only at h); (try simp only [kNW] at h); have hks := hK.size; omega
  have hl := lv_entry ([.ref la, .ref v, .ref (D.2.2.2 2), .int (kI (0))]) (n := 4) (Nat.le_of_ble_eq_true rfl)
  rw [lg_entry_eq]
  generalize (lg_sl ([.ref la, .ref v, .ref (D.2.2.2 2), .int (kI (0))]) ++ List.replicate (4 - (lg_sl ([.ref la, .ref v, .ref (D.2.2.2 2), .int (kI (0))])).length) Slot.unset).toArray = ls at hl ⊢
  have hl : lv_has ls 4 [(0, .ref la), (1, .ref v), (2, .ref (D.2.2.2 2)), (3, .int (kI (0)))] := hl
  have hlt0 := hO_la.lt
  have hltv := hO_v.lt
  refine lv_iload_n hx hb dJ2_add_2_0 rfl (lv_at hl 3 rfl) ?_
  refine lv_aload_n hx hb dJ2_add_2_1 rfl (lv_at hl 2 rfl) ?_
  refine kx_tlen hx hb hK.tE hS hB dJ2_add_2_2 ?_
  refine kx_icmp_ne (x := 0) (y := ((0 : Nat) : Int)) (tgt := 11) hx hb dJ2_add_2_3 (by decide) (by omega) (by omega) (by omega) (by omega) (fun c_3_1 => ?_) (fun c_3_1 => ?_)
  · -- taken at 3
    exfalso; omega
  · -- not taken at 3
    refine lv_aload_n hx hb dJ2_add_2_6 rfl (lv_at hl 0 rfl) ?_
    refine kx_cr (va_runV (As := []) (rest := []) ⟨hx, hb, hml, hown, hts⟩ (m_J2_grow l D s.heap la mc hO_la (by first | assumption | omega)) (cwV 0 hts (lw_V q377 q379 qs2 q83 q380) rfl rfl rfl (by decide +kernel) ⟨Nat.le_of_ble_eq_true rfl, Nat.le_of_ble_eq_true rfl⟩) (kx_pv hK hS hB (kx_rc hK hO_la (C := RJ2) (T := TJ2) (N := 3) rfl)) rfl rfl hl.1 rfl (lv_room (Nat.le_of_ble_eq_true rfl)) dJ2_add_2_7 ⟨by first | exact Nat.le_of_ble_eq_true rfl | omega | (show _ ≤ _; omega) | (dsimp only [headSpec]; omega), by first | exact Nat.le_of_ble_eq_true rfl | omega | (show _ ≤ _; omega) | (dsimp only [headSpec]; omega)⟩) hS (fun q _ h => by (try dsimp only at h); (try dsimp only); (try simp only [kNW] at h); (try simp only [kNW]); omega) (fun q h => by (try dsimp only at h); (try dsimp only); (try simp only [kNW] at h); (try simp only [kNW]); omega) (fun z_7 H_5 locs_2 hz_4 hF_6 hS_3 => ?_)
    have hzf_8 := hF_6.1
    refine W.widen (k := 1) (n := 10) (Nat.le_of_ble_eq_true rfl) (Nat.le_of_ble_eq_true rfl) ?_
    obtain ⟨ho_9, ho_10, hnew_11⟩ := hz_4
    refine lv_astore_n (lv' := [(2, .ref z_7), (0, .ref la), (1, .ref v), (3, .int (kI (0)))]) hx hb dJ2_add_2_10 rfl hl (by decide) rfl (fun ls hl => ?_)
    refine lv_aload_n hx hb dJ2_add_2_11 rfl (lv_at hl 0 rfl) ?_
    refine lv_iload_n hx hb dJ2_add_2_12 rfl (lv_at hl 3 rfl) ?_
    refine lv_aload_n hx hb dJ2_add_2_13 rfl (lv_at hl 2 rfl) ?_
    have h_17 := hO_v.fr hF_6 (fun h => by (try dsimp only at h); (try simp only [kNW] at h); omega)
    refine kx_aast hx hb hK (t := 4) rfl ho_10 hS_3 (by first | rfl | exact Or.inl rfl | exact Or.inr rfl | exact Or.inr (Or.inl rfl) | exact Or.inr (Or.inr rfl) | exact Or.inr (Or.inr (Or.inl rfl)) | exact Or.inr (Or.inr (Or.inr rfl)) | ((try dsimp only); (try simp only [kNW]); omega)) 0 (rfl) (by omega) (by omega) (kx_rc hK h_17 (C := RX4) (T := TX4) (N := 6) rfl) (vb_asgC (hK.w q2677 rfl)) dJ2_add_2_14 (fun H_14 locs_15 hA_13 hU_12 hS_16 => ?_)
    have hzu_18 := hU_12.1
    refine lv_aload_n hx hb dJ2_add_2_15 rfl (lv_at hl 1 rfl) ?_
    refine lv_iload_n hx hb dJ2_add_2_16 rfl (lv_at hl 3 rfl) ?_
    refine kx_iconst hx hb dJ2_add_2_17 ?_
    refine kx_iadd hx hb dJ2_add_2_18 ?_
    refine kx_eqi (((1 : Nat) : Int)) (by decide) ?_
    have h_19 := ho_9.up hU_12 (by first | assumption | exact Ne.symm (by assumption) | omega | (have h9 := ho_9.lt; omega))
    refine kx_put (v := .int (kI ((1 : Nat) : Int))) (C := RJ2) (T := TJ2) (N := 3) hx hb hts in_J2 hown hK h_19 rfl 2 (by decide) tyJ2 tyJ2_ok nmJ2 hS_16 (by first | rfl | exact Or.inl rfl | exact Or.inr rfl | exact Or.inr (Or.inl rfl) | exact Or.inr (Or.inr rfl) | exact Or.inr (Or.inr (Or.inl rfl)) | exact Or.inr (Or.inr (Or.inr rfl)) | ((try dsimp only); (try simp only [kNW]); omega)) q156 (fun _ h9 => h9) rfl rfl rfl rfl (Nat.le_of_ble_eq_true rfl) dJ2_add_2_19 (fun H_22 locs_23 hO_21 hU_20 hS_24 => ?_)
    have hO_21 : kO D H_22 la 9 [.int (kI (mc)), .ref z_7, .int (kI ((1 : Nat) : Int))] := hO_21
    have hzu_25 := hU_20.1
    have h_26 := hA_13.up hU_20 (by first | assumption | exact Ne.symm (by assumption) | omega | (have h9 := hA_13.lt; omega))
    exact kx_vret hx hb hr hlk (⟨z_7, hO_21, h_26, by first | assumption | rfl | omega | grind⟩) hS_24 dJ2_add_2_22

set_option maxHeartbeats 4000000 in
set_option maxRecDepth 100000 in
theorem m_J2_add_0 (l : Launch) (D : kG) (H : Heap) (la : Nat) (mc : Int) (v : Nat) (vfs : List Value) (hO_la : kO D H la 9 [.int (kI (mc)), .ref (D.2.2.2 2), .int (kI (0))]) (hO_v : kO D H v 3 vfs) (bs_la : kBase D ≤ la) (ne_v_la : v ≠ la) : Met l yJ2_add (ws_ yJ2_add cJ2_add 2 (some .boolean)) ({ frames := 4, cells := 1, slots := 10, locals := 96 } : Room) (kPre D H [.ref la, .ref v]) (kQb (fun (r : Bool) H' => ∃ (ea : Nat), (r = true) ∧ (kO D H' la 9 [.int (kI ((mc + 1))), .ref ea, .int (kI ((1 : Nat) : Int))]) ∧ (kAq D H' ea 4 10 (kupq (fun _ => none) 0 (some v))) ∧ (H.size ≤ ea)) (fun q : Nat => q = la ∨ H.size ≤ q)) (1) (10) ((fun q : Nat => q = la ∨ H.size ≤ q)) := by
  refine Met.ofW (cc := cJ2_add) (maxL := 2) (ret := (some .boolean)) (by decide) rfl ?_
  intro p e s m args below meth c s₁ B hml hv
  obtain ⟨rfl, hH, hK⟩ := hv
  subst hH
  have hx := B.exec
  have hb := B.bytes
  have hr := B.returns
  have hts := atoms_spec (ws := ws_ yJ2_add cJ2_add 2 (some .boolean)) B.pre
  have hts : ∀ w ∈ lw_all, w.before _ s = true := fun w h => hts w (List.mem_cons_of_mem _ h)
  have hown : s.vm.findClass RJ2 = some m.cls := findClass_of_methodNamed B.named
  have hlk := B.notSynchronized
  have hS : va_S (fun q : Nat => q = la ∨ s.heap.size ≤ q) s.heap s.heap [] := va_S.rf
  have hB : ∀ q, (fun q : Nat => q = la ∨ s.heap.size ≤ q) q → kBase D ≤ q := fun q h => by (try dsimp only at h); (try simp only [kNW] at h); have hks := hK.size; omega
  have hl := lv_entry ([.ref la, .ref v]) (n := 2) (Nat.le_of_ble_eq_true rfl)
  rw [lg_entry_eq]
  generalize (lg_sl ([.ref la, .ref v]) ++ List.replicate (2 - (lg_sl ([.ref la, .ref v])).length) Slot.unset).toArray = ls at hl ⊢
  have hl : lv_has ls 2 [(0, .ref la), (1, .ref v)] := hl
  have hlt0 := hO_la.lt
  have hltv := hO_v.lt
  refine lv_aload_n hx hb dJ2_add_0 rfl (lv_at hl 0 rfl) ?_
  refine lv_dup hx hb dJ2_add_1 rfl ?_
  refine kx_get (v := .int (kI (mc))) (C := RJ2) (T := TJ2) (N := 3) hx hb hts in_J2 hown hK hO_la rfl 0 (by decide) q158 (fun x h9 => u_same (hts _ q159) x h9) rfl dJ2_add_2 ?_
  refine kx_iconst hx hb dJ2_add_5 ?_
  refine kx_iadd hx hb dJ2_add_6 ?_
  refine kx_put (v := .int (kI ((mc + 1)))) (C := RJ2) (T := TJ2) (N := 3) hx hb hts in_J2 hown hK hO_la rfl 0 (by decide) tyJ2 tyJ2_ok nmJ2 hS (by first | rfl | exact Or.inl rfl | exact Or.inr rfl | exact Or.inr (Or.inl rfl) | exact Or.inr (Or.inr rfl) | exact Or.inr (Or.inr (Or.inl rfl)) | exact Or.inr (Or.inr (Or.inr rfl)) | ((try dsimp only); (try simp only [kNW]); omega)) q158 (fun x h9 => u_same (hts _ q159) x h9) rfl rfl rfl rfl (Nat.le_of_ble_eq_true rfl) dJ2_add_7 (fun H_3 locs_4 hO_2 hU_1 hS_5 => ?_)
  have hO_2 : kO D H_3 la 9 [.int (kI ((mc + 1))), .ref (D.2.2.2 2), .int (kI (0))] := hO_2
  have hzu_6 := hU_1.1
  refine lv_aload_n hx hb dJ2_add_10 rfl (lv_at hl 0 rfl) ?_
  refine lv_aload_n hx hb dJ2_add_11 rfl (lv_at hl 1 rfl) ?_
  refine lv_aload_n hx hb dJ2_add_12 rfl (lv_at hl 0 rfl) ?_
  refine kx_get (v := .ref (D.2.2.2 2)) (C := RJ2) (T := TJ2) (N := 3) hx hb hts in_J2 hown hK hO_2 rfl 1 (by decide) q155 (fun _ h9 => h9) rfl dJ2_add_13 ?_
  refine lv_aload_n hx hb dJ2_add_16 rfl (lv_at hl 0 rfl) ?_
  refine kx_get (v := .int (kI (0))) (C := RJ2) (T := TJ2) (N := 3) hx hb hts in_J2 hown hK hO_2 rfl 2 (by decide) q156 (fun _ h9 => h9) rfl dJ2_add_17 ?_
  have h_7 := hO_v.up hU_1 (by first | assumption | exact Ne.symm (by assumption) | omega | (have h9 := hO_v.lt; omega))
  refine kx_cv (va_runV (As := [.ref v, .ref (D.2.2.2 2), .int (kI (0))]) (rest := []) ⟨hx, hb, hml, hown, hts⟩ (m_J2_add_2_0 l D H_3 la ((mc + 1)) v vfs hO_2 h_7 (by first | assumption | omega) (by first | assumption | omega)) (cwV 3 hts (lw_V q373 q375 qs1 q83 q376) rfl rfl rfl (by decide +kernel) ⟨Nat.le_of_ble_eq_true rfl, Nat.le_of_ble_eq_true rfl⟩) (kx_pv hK hS_5 hB (kx_rc hK hO_2 (C := RJ2) (T := TJ2) (N := 3) rfl)) rfl rfl hl.1 rfl (lv_room (Nat.le_of_ble_eq_true rfl)) dJ2_add_20 ⟨by first | exact Nat.le_of_ble_eq_true rfl | omega | (show _ ≤ _; omega) | (dsimp only [headSpec]; omega), by first | exact Nat.le_of_ble_eq_true rfl | omega | (show _ ≤ _; omega) | (dsimp only [headSpec]; omega)⟩) hS_5 (fun q _ h => by (try dsimp only at h); (try dsimp only); (try simp only [kNW] at h); (try simp only [kNW]); omega) (fun q h => by (try dsimp only at h); (try dsimp only); (try simp only [kNW] at h); (try simp only [kNW]); omega) (fun H_11 locs_8 hz_10 hF_12 hS_9 => ?_)
  have hzf_14 := hF_12.1
  refine W.widen (k := 1) (n := 10) (Nat.le_of_ble_eq_true rfl) (Nat.le_of_ble_eq_true rfl) ?_
  obtain ⟨ea_15, ho_16, ho_17, hnew_18⟩ := hz_10
  refine kx_iconst hx hb dJ2_add_23 ?_
  exact kx_zret (z := true) hx hb hr hlk (⟨ea_15, by rfl, ho_16, ho_17, by first | assumption | rfl | omega | grind⟩) hS_9 dJ2_add_24

set_option maxHeartbeats 4000000 in
set_option maxRecDepth 100000 in
theorem m_J2_fastRemove (l : Launch) (D : kG) (H : Heap) (la : Nat) (mc : Int) (ea : Nat) (n : Nat) (g : Nat → Option Nat) (i : Nat) (hO_la : kO D H la 9 [.int (kI (mc)), .ref ea, .int (kI ((n : Nat) : Int))]) (hA_ea : kAq D H ea 4 10 g) (ne_la_ea : la ≠ ea) (bs_la : kBase D ≤ la) (bs_ea : kBase D ≤ ea) (hi : i < n) (hn10 : n ≤ 10) (hel : ∀ j, j < n → ∀ y, g j = some y → y ≠ la ∧ y ≠ ea ∧ ∃ fs, kO D H y 3 fs) : Met l yJ2_fastRemove (ws_ yJ2_fastRemove cJ2_fastRemove 4 none) ({ frames := 1, cells := 0, slots := 0, locals := 60 } : Room) (kPre D H [.ref la, .ref ea, .int (kI ((i : Nat) : Int))]) (kQv (fun H' => ∃ (g2 : Nat → Option Nat), (kO D H' la 9 [.int (kI ((mc + 1))), .ref ea, .int (kI ((n - 1 : Nat) : Int))]) ∧ (kAq D H' ea 4 10 g2) ∧ (∀ j, j < n - 1 → g2 j = g (if j < i then j else j + 1))) (fun q : Nat => q = la ∨ q = ea)) (0) (0) ((fun q : Nat => q = la ∨ q = ea)) := by
  refine Met.ofW (cc := cJ2_fastRemove) (maxL := 4) (ret := none) (by decide) rfl ?_
  intro p e s m args below meth c s₁ B hml hv
  obtain ⟨rfl, hH, hK⟩ := hv
  subst hH
  have hx := B.exec
  have hb := B.bytes
  have hr := B.returns
  have hts := atoms_spec (ws := ws_ yJ2_fastRemove cJ2_fastRemove 4 none) B.pre
  have hts : ∀ w ∈ lw_all, w.before _ s = true := fun w h => hts w (List.mem_cons_of_mem _ h)
  have hown : s.vm.findClass RJ2 = some m.cls := findClass_of_methodNamed B.named
  have hlk := B.notSynchronized
  have hS : va_S (fun q : Nat => q = la ∨ q = ea) s.heap s.heap [] := va_S.rf
  have hB : ∀ q, (fun q : Nat => q = la ∨ q = ea) q → kBase D ≤ q := fun q h => by (try dsimp only at h); (try simp only [kNW] at h); have hks := hK.size; omega
  have hl := lv_entry ([.ref la, .ref ea, .int (kI ((i : Nat) : Int))]) (n := 4) (Nat.le_of_ble_eq_true rfl)
  rw [lg_entry_eq]
  generalize (lg_sl ([.ref la, .ref ea, .int (kI ((i : Nat) : Int))]) ++ List.replicate (4 - (lg_sl ([.ref la, .ref ea, .int (kI ((i : Nat) : Int))])).length) Slot.unset).toArray = ls at hl ⊢
  have hl : lv_has ls 4 [(0, .ref la), (1, .ref ea), (2, .int (kI ((i : Nat) : Int)))] := hl
  refine lv_aload_n hx hb dJ2_fastRemove_0 rfl (lv_at hl 0 rfl) ?_
  refine lv_dup hx hb dJ2_fastRemove_1 rfl ?_
  refine kx_get (v := .int (kI (mc))) (C := RJ2) (T := TJ2) (N := 3) hx hb hts in_J2 hown hK hO_la rfl 0 (by decide) q158 (fun x h9 => u_same (hts _ q159) x h9) rfl dJ2_fastRemove_2 ?_
  refine kx_iconst hx hb dJ2_fastRemove_5 ?_
  refine kx_iadd hx hb dJ2_fastRemove_6 ?_
  refine kx_put (v := .int (kI ((mc + 1)))) (C := RJ2) (T := TJ2) (N := 3) hx hb hts in_J2 hown hK hO_la rfl 0 (by decide) tyJ2 tyJ2_ok nmJ2 hS (by first | rfl | exact Or.inl rfl | exact Or.inr rfl | exact Or.inr (Or.inl rfl) | exact Or.inr (Or.inr rfl) | exact Or.inr (Or.inr (Or.inl rfl)) | exact Or.inr (Or.inr (Or.inr rfl)) | ((try dsimp only); (try simp only [kNW]); omega)) q158 (fun x h9 => u_same (hts _ q159) x h9) rfl rfl rfl rfl (Nat.le_of_ble_eq_true rfl) dJ2_fastRemove_7 (fun H_3 locs_4 hO_2 hU_1 hS_5 => ?_)
  have hO_2 : kO D H_3 la 9 [.int (kI ((mc + 1))), .ref ea, .int (kI ((n : Nat) : Int))] := hO_2
  have hzu_6 := hU_1.1
  refine lv_aload_n hx hb dJ2_fastRemove_10 rfl (lv_at hl 0 rfl) ?_
  refine kx_get (v := .int (kI ((n : Nat) : Int))) (C := RJ2) (T := TJ2) (N := 3) hx hb hts in_J2 hown hK hO_2 rfl 2 (by decide) q156 (fun _ h9 => h9) rfl dJ2_fastRemove_11 ?_
  refine kx_iconst hx hb dJ2_fastRemove_14 ?_
  refine kx_isub hx hb dJ2_fastRemove_15 ?_
  refine kx_eqi (((n - 1 : Nat) : Int)) (by omega) ?_
  refine lv_dup hx hb dJ2_fastRemove_16 rfl ?_
  refine lv_istore_n (lv' := [(3, .int (kI ((n - 1 : Nat) : Int))), (0, .ref la), (1, .ref ea), (2, .int (kI ((i : Nat) : Int)))]) hx hb dJ2_fastRemove_17 rfl hl (by decide) rfl (fun ls hl => ?_)
  refine lv_iload_n hx hb dJ2_fastRemove_18 rfl (lv_at hl 3 rfl) ?_
  refine kx_icmp_le (x := ((n - 1 : Nat) : Int)) (y := ((i : Nat) : Int)) (tgt := 34) hx hb dJ2_fastRemove_19 (by decide) (by omega) (by omega) (by omega) (by omega) (fun c_19_7 => ?_) (fun c_19_7 => ?_)
  · -- taken at 19
    refine lv_aload_n hx hb dJ2_fastRemove_34 rfl (lv_at hl 2 rfl) ?_
    refine lv_aload_n hx hb dJ2_fastRemove_35 rfl (lv_at hl 1 rfl) ?_
    refine lv_iload_n hx hb dJ2_fastRemove_36 rfl (lv_at hl 0 rfl) ?_
    refine lv_dup_x1 hx hb dJ2_fastRemove_37 rfl rfl ?_
    refine kx_put (v := .int (kI ((n - 1 : Nat) : Int))) (C := RJ2) (T := TJ2) (N := 3) hx hb hts in_J2 hown hK hO_2 rfl 2 (by decide) tyJ2 tyJ2_ok nmJ2 hS_5 (by first | rfl | exact Or.inl rfl | exact Or.inr rfl | exact Or.inr (Or.inl rfl) | exact Or.inr (Or.inr rfl) | exact Or.inr (Or.inr (Or.inl rfl)) | exact Or.inr (Or.inr (Or.inr rfl)) | ((try dsimp only); (try simp only [kNW]); omega)) q156 (fun _ h9 => h9) rfl rfl rfl rfl (Nat.le_of_ble_eq_true rfl) dJ2_fastRemove_38 (fun H_10 locs_11 hO_9 hU_8 hS_12 => ?_)
    have hO_9 : kO D H_10 la 9 [.int (kI ((mc + 1))), .ref ea, .int (kI ((n - 1 : Nat) : Int))] := hO_9
    have hzu_13 := hU_8.1
    refine lv_null hx hb dJ2_fastRemove_41 ?_
    have h_14 := hA_ea.up hU_1 (by first | assumption | exact Ne.symm (by assumption) | omega | (have h9 := hA_ea.lt; omega))
    have h_15 := h_14.up hU_8 (by first | assumption | exact Ne.symm (by assumption) | omega | (have h9 := h_14.lt; omega))
    refine kx_aastN hx hb hK (t := 4) rfl h_15 hS_12 (by first | rfl | exact Or.inl rfl | exact Or.inr rfl | exact Or.inr (Or.inl rfl) | exact Or.inr (Or.inr rfl) | exact Or.inr (Or.inr (Or.inl rfl)) | exact Or.inr (Or.inr (Or.inr rfl)) | ((try dsimp only); (try simp only [kNW]); omega)) (n - 1) (rfl) (by omega) (by omega) dJ2_fastRemove_42 (fun H_18 locs_19 hA_17 hU_16 hS_20 => ?_)
    have hzu_21 := hU_16.1
    have h_22 := hO_9.up hU_16 (by first | assumption | exact Ne.symm (by assumption) | omega | (have h9 := hO_9.lt; omega))
    exact kx_vret hx hb hr hlk (⟨(kupq g (n - 1) none), h_22, hA_17, by intro j hj; rw [kupq_ne (by omega)]; first | (unfold va_cpy; split <;> first | (rw [if_neg (by omega)]; congr 1; omega) | (rw [if_pos (by omega)]; done)) | (rw [if_pos (by omega)]; done)⟩) hS_20 dJ2_fastRemove_43
  · -- not taken at 19
    refine lv_aload_n hx hb dJ2_fastRemove_22 rfl (lv_at hl 2 rfl) ?_
    refine lv_iload_n hx hb dJ2_fastRemove_23 rfl (lv_at hl 3 rfl) ?_
    refine kx_iconst hx hb dJ2_fastRemove_24 ?_
    refine kx_iadd hx hb dJ2_fastRemove_25 ?_
    refine lv_aload_n hx hb dJ2_fastRemove_26 rfl (lv_at hl 2 rfl) ?_
    refine lv_iload_n hx hb dJ2_fastRemove_27 rfl (lv_at hl 3 rfl) ?_
    refine lv_iload_n hx hb dJ2_fastRemove_28 rfl (lv_at hl 0 rfl) ?_
    refine lv_iload_n hx hb dJ2_fastRemove_29 rfl (lv_at hl 3 rfl) ?_
    refine kx_isub hx hb dJ2_fastRemove_30 ?_
    refine kx_eqi (((n - 1 - i : Nat) : Int)) (by omega) ?_
    have h_23 := hA_ea.up hU_1 (by first | assumption | exact Ne.symm (by assumption) | omega | (have h9 := hA_ea.lt; omega))
    refine kx_copyq (sn := (i + 1)) (dn := i) (wn := (n - 1 - i)) (ci := 3) hx hb hml hl.1 hts hown q1763 q437 q436 q104 hK rfl (hK.w q2677 rfl) h_23 hS_5 (by first | rfl | exact Or.inl rfl | exact Or.inr rfl | exact Or.inr (Or.inl rfl) | exact Or.inr (Or.inr rfl) | exact Or.inr (Or.inr (Or.inl rfl)) | exact Or.inr (Or.inr (Or.inr rfl)) | ((try dsimp only); (try simp only [kNW]); omega)) (by omega) (by omega) (by omega) (by omega) (by omega) (by omega) (fun j hj y hy => by obtain ⟨z1, z2, fs, z3⟩ := hel _ (by omega) y hy; exact ⟨fs, z3.up hU_1 z1⟩) (by first | exact Nat.le_of_ble_eq_true rfl | omega | (show _ ≤ _; omega) | (dsimp only [headSpec]; omega)) (by first | exact Nat.le_of_ble_eq_true rfl | omega | (show _ ≤ _; omega) | (dsimp only [headSpec]; omega)) dJ2_fastRemove_31 (fun H_26 locs_27 hA_25 hU_24 hS_28 => ?_)
    have hzu_29 := hU_24.1
    refine lv_aload_n hx hb dJ2_fastRemove_34 rfl (lv_at hl 2 rfl) ?_
    refine lv_aload_n hx hb dJ2_fastRemove_35 rfl (lv_at hl 1 rfl) ?_
    refine lv_iload_n hx hb dJ2_fastRemove_36 rfl (lv_at hl 0 rfl) ?_
    refine lv_dup_x1 hx hb dJ2_fastRemove_37 rfl rfl ?_
    have h_30 := hO_2.up hU_24 (by first | assumption | exact Ne.symm (by assumption) | omega | (have h9 := hO_2.lt; omega))
    refine kx_put (v := .int (kI ((n - 1 : Nat) : Int))) (C := RJ2) (T := TJ2) (N := 3) hx hb hts in_J2 hown hK h_30 rfl 2 (by decide) tyJ2 tyJ2_ok nmJ2 hS_28 (by first | rfl | exact Or.inl rfl | exact Or.inr rfl | exact Or.inr (Or.inl rfl) | exact Or.inr (Or.inr rfl) | exact Or.inr (Or.inr (Or.inl rfl)) | exact Or.inr (Or.inr (Or.inr rfl)) | ((try dsimp only); (try simp only [kNW]); omega)) q156 (fun _ h9 => h9) rfl rfl rfl rfl (Nat.le_of_ble_eq_true rfl) dJ2_fastRemove_38 (fun H_33 locs_34 hO_32 hU_31 hS_35 => ?_)
    have hO_32 : kO D H_33 la 9 [.int (kI ((mc + 1))), .ref ea, .int (kI ((n - 1 : Nat) : Int))] := hO_32
    have hzu_36 := hU_31.1
    refine lv_null hx hb dJ2_fastRemove_41 ?_
    have h_37 := hA_25.up hU_31 (by first | assumption | exact Ne.symm (by assumption) | omega | (have h9 := hA_25.lt; omega))
    refine kx_aastN hx hb hK (t := 4) rfl h_37 hS_35 (by first | rfl | exact Or.inl rfl | exact Or.inr rfl | exact Or.inr (Or.inl rfl) | exact Or.inr (Or.inr rfl) | exact Or.inr (Or.inr (Or.inl rfl)) | exact Or.inr (Or.inr (Or.inr rfl)) | ((try dsimp only); (try simp only [kNW]); omega)) (n - 1) (rfl) (by omega) (by omega) dJ2_fastRemove_42 (fun H_40 locs_41 hA_39 hU_38 hS_42 => ?_)
    have hzu_43 := hU_38.1
    have h_44 := hO_32.up hU_38 (by first | assumption | exact Ne.symm (by assumption) | omega | (have h9 := hO_32.lt; omega))
    exact kx_vret hx hb hr hlk (⟨(kupq (va_cpy g g ((i + 1)) i ((n - 1 - i))) (n - 1) none), h_44, hA_39, by intro j hj; rw [kupq_ne (by omega)]; first | (unfold va_cpy; split <;> first | (rw [if_neg (by omega)]; congr 1; omega) | (rw [if_pos (by omega)]; done)) | (rw [if_pos (by omega)]; done)⟩) hS_42 dJ2_fastRemove_43

set_option maxHeartbeats 4000000 in
set_option maxRecDepth 100000 in
theorem m_J2_remove (l : Launch) (D : kG) (H : Heap) (la : Nat) (mc : Int) (ea : Nat) (n : Nat) (g : Nat → Option Nat) (i : Nat) (b : Nat) (hO_la : kO D H la 9 [.int (kI (mc)), .ref ea, .int (kI ((n : Nat) : Int))]) (hA_ea : kAq D H ea 4 10 g) (ne_la_ea : la ≠ ea) (bs_la : kBase D ≤ la) (bs_ea : kBase D ≤ ea) (hi : i < n) (hn10 : n ≤ 10) (hg : g i = some b) (hel : ∀ j, j < n → ∀ y, g j = some y → y ≠ la ∧ y ≠ ea ∧ ∃ fs, kO D H y 3 fs) : Met l yJ2_remove (ws_ yJ2_remove cJ2_remove 4 (some (.object "java/lang/Object"))) ({ frames := 2, cells := 0, slots := 0, locals := 83 } : Room) (kPre D H [.ref la, .int (kI ((i : Nat) : Int))]) (kQr (fun (r : Nat) H' => ∃ (g2 : Nat → Option Nat), (kO D H' la 9 [.int (kI ((mc + 1))), .ref ea, .int (kI ((n - 1 : Nat) : Int))]) ∧ (kAq D H' ea 4 10 g2) ∧ (∀ j, j < n - 1 → g2 j = g (if j < i then j else j + 1))) (fun q : Nat => q = la ∨ q = ea)) (0) (0) ((fun q : Nat => q = la ∨ q = ea)) := by
  refine Met.ofW (cc := cJ2_remove) (maxL := 4) (ret := (some (.object "java/lang/Object"))) (by decide) rfl ?_
  intro p e s m args below meth c s₁ B hml hv
  obtain ⟨rfl, hH, hK⟩ := hv
  subst hH
  have hx := B.exec
  have hb := B.bytes
  have hr := B.returns
  have hts := atoms_spec (ws := ws_ yJ2_remove cJ2_remove 4 (some (.object "java/lang/Object"))) B.pre
  have hts : ∀ w ∈ lw_all, w.before _ s = true := fun w h => hts w (List.mem_cons_of_mem _ h)
  have hown : s.vm.findClass RJ2 = some m.cls := findClass_of_methodNamed B.named
  have hlk := B.notSynchronized
  have hS : va_S (fun q : Nat => q = la ∨ q = ea) s.heap s.heap [] := va_S.rf
  have hB : ∀ q, (fun q : Nat => q = la ∨ q = ea) q → kBase D ≤ q := fun q h => by (try dsimp only at h); (try simp only [kNW] at h); have hks := hK.size; omega
  have hl := lv_entry ([.ref la, .int (kI ((i : Nat) : Int))]) (n := 4) (Nat.le_of_ble_eq_true rfl)
  rw [lg_entry_eq]
  generalize (lg_sl ([.ref la, .int (kI ((i : Nat) : Int))]) ++ List.replicate (4 - (lg_sl ([.ref la, .int (kI ((i : Nat) : Int))])).length) Slot.unset).toArray = ls at hl ⊢
  have hl : lv_has ls 4 [(0, .ref la), (1, .int (kI ((i : Nat) : Int)))] := hl
  refine lv_iload_n hx hb dJ2_remove_0 rfl (lv_at hl 1 rfl) ?_
  refine lv_aload_n hx hb dJ2_remove_1 rfl (lv_at hl 0 rfl) ?_
  refine kx_get (v := .int (kI ((n : Nat) : Int))) (C := RJ2) (T := TJ2) (N := 3) hx hb hts in_J2 hown hK hO_la rfl 2 (by decide) q156 (fun _ h9 => h9) rfl dJ2_remove_2 ?_
  refine kx_ci0 (va_runS (As := [.int (kI ((i : Nat) : Int)), .int (kI ((n : Nat) : Int))]) (rest := []) ⟨hx, hb, hml, hown, hts⟩ (m_J14_checkIndex l D s.heap i n  (by first | assumption | omega) (by first | assumption | omega)) (va_cwS 2 hts (lw_S q297 q298 q96 q299) rfl rfl rfl (by decide +kernel) ⟨Nat.le_of_ble_eq_true rfl, Nat.le_of_ble_eq_true rfl⟩) (kx_ps hK hS hB) rfl rfl hl.1 rfl (lv_room (Nat.le_of_ble_eq_true rfl)) dJ2_remove_5 ⟨by first | exact Nat.le_of_ble_eq_true rfl | omega | (show _ ≤ _; omega) | (dsimp only [headSpec]; omega), by first | exact Nat.le_of_ble_eq_true rfl | omega | (show _ ≤ _; omega) | (dsimp only [headSpec]; omega)⟩) hS (fun z_4 locs_1 hz_3 hS_2 => ?_)
  subst z_4
  refine lv_pop hx hb dJ2_remove_8 rfl ?_
  refine lv_aload_n hx hb dJ2_remove_9 rfl (lv_at hl 0 rfl) ?_
  refine kx_get (v := .ref ea) (C := RJ2) (T := TJ2) (N := 3) hx hb hts in_J2 hown hK hO_la rfl 1 (by decide) q155 (fun _ h9 => h9) rfl dJ2_remove_10 ?_
  refine lv_astore_n (lv' := [(2, .ref ea), (0, .ref la), (1, .int (kI ((i : Nat) : Int)))]) hx hb dJ2_remove_13 rfl hl (by decide) rfl (fun ls hl => ?_)
  refine lv_aload_n hx hb dJ2_remove_14 rfl (lv_at hl 0 rfl) ?_
  refine lv_iload_n hx hb dJ2_remove_15 rfl (lv_at hl 2 rfl) ?_
  refine kx_aald hx hb hK (t := 4) rfl hA_ea i (rfl) (by omega) (by omega) dJ2_remove_16 ?_
  refine kx_eqq hx hb (b := b) (hg) ?_
  refine lv_astore_n (lv' := [(3, .ref b), (2, .ref ea), (0, .ref la), (1, .int (kI ((i : Nat) : Int)))]) hx hb dJ2_remove_17 rfl hl (by decide) rfl (fun ls hl => ?_)
  refine lv_aload_n hx hb dJ2_remove_18 rfl (lv_at hl 2 rfl) ?_
  refine lv_aload_n hx hb dJ2_remove_19 rfl (lv_at hl 1 rfl) ?_
  refine lv_iload_n hx hb dJ2_remove_20 rfl (lv_at hl 3 rfl) ?_
  refine kx_cv (va_runV (As := [.ref ea, .int (kI ((i : Nat) : Int))]) (rest := []) ⟨hx, hb, hml, hown, hts⟩ (m_J2_fastRemove l D s.heap la mc ea n g i hO_la hA_ea (by first | assumption | omega) (by first | assumption | omega) (by first | assumption | omega) (by first | assumption | omega) (by first | assumption | omega) (by first | assumption | omega)) (cwV 2 hts (lw_V q1759 q1761 qs30 q83 q1762) rfl rfl rfl (by decide +kernel) ⟨Nat.le_of_ble_eq_true rfl, Nat.le_of_ble_eq_true rfl⟩) (kx_pv hK hS_2 hB (kx_rc hK hO_la (C := RJ2) (T := TJ2) (N := 3) rfl)) rfl rfl hl.1 rfl (lv_room (Nat.le_of_ble_eq_true rfl)) dJ2_remove_21 ⟨by first | exact Nat.le_of_ble_eq_true rfl | omega | (show _ ≤ _; omega) | (dsimp only [headSpec]; omega), by first | exact Nat.le_of_ble_eq_true rfl | omega | (show _ ≤ _; omega) | (dsimp only [headSpec]; omega)⟩) hS_2 (fun q _ h => by (try dsimp only at h); (try dsimp only); (try simp only [kNW] at h); (try simp only [kNW]); omega) (fun q h => by (try dsimp only at h); (try dsimp only); (try simp only [kNW] at h); (try simp only [kNW]); omega) (fun H_8 locs_5 hz_7 hF_9 hS_6 => ?_)
  have hzf_11 := hF_9.1
  refine W.widen (k := 0) (n := 0) (Nat.le_of_ble_eq_true rfl) (Nat.le_of_ble_eq_true rfl) ?_
  obtain ⟨g2_12, ho_13, ho_14, hg9⟩ := hz_7
  refine lv_aload_n hx hb dJ2_remove_24 rfl (lv_at hl 0 rfl) ?_
  exact kx_aret (z := b) hx hb hr (by first | exact Or.inl ⟨_, rfl⟩ | exact Or.inr ⟨_, rfl⟩) hlk (⟨g2_12, ho_13, ho_14, by exact hg9⟩) hS_6 dJ2_remove_25

