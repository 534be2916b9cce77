/-! THROWS -/
section KXT
variable {p : Program} {l : Launch} {e : Env} {R : Room} {s : State} {m : MethodId} {args : Array Value} {below : List Frame} {meth : Method} {c : Code} {H : Heap} {locs : List Loc} {cells slots : Nat} {Q : State → Prop}
variable {cc : ByteArray} {pc : Nat} {ls : Array Slot} {rest : List Value} {D : kG} {A : Nat → Prop} {a : Nat} {H0 : Heap}
/-- it throws E; nothing has changed but at A -/
def kXC (E : String) (A : Nat → Prop) : String → State → State → Prop := fun E' st t => E' = E ∧ va_F A st t
def kFl : Array Value → State → Outcome → State → Prop := fun _ _ _ _ => False
theorem ex_hat (hts : ∀ w ∈ lw_all, w.before args s = true) (hK : kK D s) (ws : List Cond) (ps : List Nat) (hp : ws = ps.filterMap (fun i => lw_tbl[i]?)) (hg : ws.all (fun w => goodWord w || kw_ok w) = true) : ∀ w ∈ ws, w.before args s = true := by
  intro w hw
  have h1 := List.all_eq_true.mp hg w hw
  have h2 : w ∈ lw_tbl := by
    rw [hp] at hw
    obtain ⟨i, -, hi⟩ := List.mem_filterMap.mp hw
    exact List.mem_of_getElem? hi
  rw [Bool.or_eq_true] at h1
  rcases h1 with g | g
  · exact hts _ (List.mem_filter.mpr ⟨h2, g⟩)
  · have h3 := hK.w h2 g
    cases w <;> first | (cases g; done) | exact va_Nw.use rfl h3
theorem kx_throw (hx : p.tables.exec = Jvm.exec) (hb : c.code = cc) (hl9 : l.stackTraces = false) {own cls : String} {names : List String} {ik ic mc ms nL : Nat} (hml : c.maxLocals = nL) (hsz0 : ls.size = nL) (hts : ∀ w ∈ lw_all, w.before args s = true) (hown : s.vm.findClass own = some m.cls) (hK : kK D s) (hcls : Bundle.fit cls = true) (hnames : ∀ n ∈ names, Bundle.fit n = true) (hk : Cond.classLink own ik cls ∈ lw_all) (hini : Cond.initialized cls ∈ lw_all) (ps : List Nat) (hp : vx_at0 own ic cls names = ps.filterMap (fun i => lw_tbl[i]?)) (hg : (vx_at0 own ic cls names).all (fun w => goodWord w || kw_ok w) = true) (hgood : (Cond.classLink own ik cls :: Cond.initialized cls :: vx_at0 own ic cls names).all vx_ot = true) (hS : va_S A s.heap H locs) (hB : ∀ q, A q → kBase D ≤ q)
    (d0 : decode cc pc = .ok (.new ik, 3)) (d3 : decode cc (pc + 3) = .ok (.dup, 1)) (d4 : decode cc (pc + 4) = .ok (.invokespecial ic, 3)) (d7 : decode cc (pc + 7) = .ok (.athrow, 1)) (hxt : ∀ x ∈ c.exceptionTable.toList, False) (hlk : meth.locks = false) {Qc : Array Value → State → Outcome → State → Prop}
    (hRf : names.length + 3 < R.frames) (hRl : (rest.map fun v => v.category).sum + (13 * (names.length + 1) + 42) ≤ R.locals) (hRc : cells + 1 ≤ R.cells) (hRs : slots + 6 ≤ R.slots) (hc : cells + 1 ≤ mc) (hs : slots + 6 ≤ ms) :
    W p l e R s m args below meth c H locs cells slots (vx_MQ below Qc (kXC cls A) args s mc ms A) (F0 m pc ls rest) :=
  vx_throw0 hx hb hl9 hown hcls hnames (hts _ hk) (hts _ hini) (ex_hat hts hK _ ps hp hg) (fun w hw => List.all_eq_true.mp hgood w hw) (hK.sUS.narrow hB) (hK.sSS.narrow hB) hS (hsz0.trans hml.symm) d0 d3 d4 d7 (fun x hx => (hxt x hx).elim) hRf hRl hRc hRs hlk
    (fun t _ h1 h2 => ⟨rfl, Nat.le_trans hS.1 h1, fun q hq hn => (h2 q (Nat.lt_of_lt_of_le hq hS.1)).trans (hS.2.1 q hq hn)⟩) hS.2.2 hc hs
/-- a call that throws; not caught here -/
theorem kx_thr {E : String} {A1 : Nat → Prop} {free : Nat → Prop} {st0 : List Value} {mc1 ms1 mc ms : Nat} {av : Array Value} (hr : vx_Run p l e R s m args below meth c H locs cells slots mc1 ms1 (F0 m pc ls st0) rest (kFl av) (kXC E A1) free) (hS : va_S A s.heap H locs) (hA : ∀ q, q < H.size → A1 q → A q) (hf : ∀ q, free q → A q) (hxt : ∀ x ∈ c.exceptionTable.toList, False) (hlk : meth.locks = false) {Qc : Array Value → State → Outcome → State → Prop} (hc : cells + mc1 ≤ mc) (hs : slots + ms1 ≤ ms) :
    W p l e R s m args below meth c H locs cells slots (vx_MQ below Qc (kXC E A) args s mc ms A) (F0 m pc ls st0) := by
  intro T hT X
  rcases hr T hT X with ⟨v, st₀, t, T', L, h0, X', hL, e1, e2, hF, st⟩ | ⟨q, st₀, t, T', L, E', ce, h0, X', hL, e1, e2, ⟨hE, hF⟩, hce, hcv, hcl, st⟩
  · exact hF.elim
  · subst hE
    obtain ⟨k1, k2, k3⟩ := vx_keep h0 e1 hS hA hf hL hF
    obtain ⟨t2, a1, b1⟩ := vx_out (Qc := Qc) (XC := kXC E' A) (H := T'.heap) (rest := rest) (pc := pc) (ls := ls) (fun x hx => (hxt x hx).elim) hlk (by rw [e1]; exact hce) hcv hcl
      (fun t9 h9 _ => ⟨rfl, by rw [h9]; exact k3.1, fun q hq hn => by rw [h9]; exact k3.2.1 q hq hn⟩) k3.2.2 hc hs T' rfl X'
    exact ⟨t2, st.trans a1, b1⟩
end KXT

set_option maxRecDepth 100000
def ex_ix_ps : List Nat := [90, 475, 484, 490, 493, 495, 476, 477, 133, 134, 478, 483, 491, 511, 465, 512, 467, 513, 469, 479, 481, 471, 1833, 1834, 1835, 1046, 456, 1046, 1047, 1048, 1049, 458, 1049, 1050, 1051, 476, 460, 1832, 1824, 1825, 1826, 488, 1827, 1828, 1829, 1830, 474, 473, 1831]
theorem ex_ix_p : vx_at0 "ContourLabels" 70 "java/lang/IndexOutOfBoundsException" ["java/lang/RuntimeException", "java/lang/Exception"] = ex_ix_ps.filterMap (fun i => lw_tbl[i]?) := by decide +kernel
theorem ex_ix_g : (vx_at0 "ContourLabels" 70 "java/lang/IndexOutOfBoundsException" ["java/lang/RuntimeException", "java/lang/Exception"]).all (fun w => goodWord w || kw_ok w) = true := by decide +kernel
theorem ex_ix_o : (Cond.classLink "ContourLabels" 68 "java/lang/IndexOutOfBoundsException" :: Cond.initialized "java/lang/IndexOutOfBoundsException" :: vx_at0 "ContourLabels" 70 "java/lang/IndexOutOfBoundsException" ["java/lang/RuntimeException", "java/lang/Exception"]).all vx_ot = true := by decide +kernel
def ex_ia_ps : List Nat := [90, 475, 484, 490, 493, 495, 476, 477, 133, 134, 478, 483, 491, 511, 465, 512, 467, 513, 469, 479, 481, 471, 1043, 1044, 1045, 1046, 456, 1046, 1047, 1048, 1049, 458, 1049, 1050, 1051, 476, 460, 1842, 1034, 1035, 1036, 487, 1037, 1038, 1039, 1040, 474, 473, 1041]
theorem ex_ia_p : vx_at0 "ContourLabels" 73 "java/lang/IllegalArgumentException" ["java/lang/RuntimeException", "java/lang/Exception"] = ex_ia_ps.filterMap (fun i => lw_tbl[i]?) := by decide +kernel
theorem ex_ia_g : (vx_at0 "ContourLabels" 73 "java/lang/IllegalArgumentException" ["java/lang/RuntimeException", "java/lang/Exception"]).all (fun w => goodWord w || kw_ok w) = true := by decide +kernel
theorem ex_ia_o : (Cond.classLink "ContourLabels" 71 "java/lang/IllegalArgumentException" :: Cond.initialized "java/lang/IllegalArgumentException" :: vx_at0 "ContourLabels" 73 "java/lang/IllegalArgumentException" ["java/lang/RuntimeException", "java/lang/Exception"]).all vx_ot = true := by decide +kernel
def ex_is_ps : List Nat := [90, 475, 484, 490, 493, 495, 476, 477, 133, 134, 478, 483, 491, 511, 465, 512, 467, 513, 469, 479, 481, 471, 1849, 1850, 1851, 1046, 456, 1046, 1047, 1048, 1049, 458, 1049, 1050, 1051, 476, 460, 1848, 454, 455, 462, 463, 464, 466, 468, 470, 474, 473, 472]
theorem ex_is_p : vx_at0 "ContourLabels" 76 "java/lang/IllegalStateException" ["java/lang/RuntimeException", "java/lang/Exception"] = ex_is_ps.filterMap (fun i => lw_tbl[i]?) := by decide +kernel
theorem ex_is_g : (vx_at0 "ContourLabels" 76 "java/lang/IllegalStateException" ["java/lang/RuntimeException", "java/lang/Exception"]).all (fun w => goodWord w || kw_ok w) = true := by decide +kernel
theorem ex_is_o : (Cond.classLink "ContourLabels" 74 "java/lang/IllegalStateException" :: Cond.initialized "java/lang/IllegalStateException" :: vx_at0 "ContourLabels" 76 "java/lang/IllegalStateException" ["java/lang/RuntimeException", "java/lang/Exception"]).all vx_ot = true := by decide +kernel
