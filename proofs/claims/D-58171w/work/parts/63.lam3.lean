/-! LAMBDAS 3: the made classes' files, and rows -/
set_option maxRecDepth 100000
def lb_1 : ByteArray := ⟨#[42, 180, 0, 17, 42, 180, 0, 19, 184, 0, 27, 172]⟩
def lf_1 : List (Nat × Nat) := [(17, 16), (19, 18)]
theorem lk_1 : lm_ok ls_1 "ContourLabels$State" lb_1 1 27 23 26 22 lf_1 := by unfold lm_ok; decide +kernel
theorem lkd_1 : ∀ (j : Nat) (q : Nat × Nat), lf_1[j]? = some q → decode lb_1 (4 * j) = .ok (.aload_n 0, 1) ∧ decode lb_1 (4 * j + 1) = .ok (.getfield q.1, 3) := by
  intro j q h
  match j, h with
  | 0, h => cases h; exact ⟨by decide +kernel, by decide +kernel⟩
  | 1, h => cases h; exact ⟨by decide +kernel, by decide +kernel⟩
  | j + 2, h => cases h
theorem lki_1 : decode lb_1 (4 * lf_1.length + 0) = .ok (.invokestatic 27, 3) := by decide +kernel
theorem lkr_1 : decode lb_1 (4 * lf_1.length + 0 + 3) = .ok (.ireturn, 1) := by decide +kernel
def lb_2 : ByteArray := ⟨#[42, 180, 0, 17, 42, 180, 0, 19, 184, 0, 27, 172]⟩
def lf_2 : List (Nat × Nat) := [(17, 16), (19, 18)]
theorem lk_2 : lm_ok ls_2 "ContourLabels$State" lb_2 1 27 23 26 22 lf_2 := by unfold lm_ok; decide +kernel
theorem lkd_2 : ∀ (j : Nat) (q : Nat × Nat), lf_2[j]? = some q → decode lb_2 (4 * j) = .ok (.aload_n 0, 1) ∧ decode lb_2 (4 * j + 1) = .ok (.getfield q.1, 3) := by
  intro j q h
  match j, h with
  | 0, h => cases h; exact ⟨by decide +kernel, by decide +kernel⟩
  | 1, h => cases h; exact ⟨by decide +kernel, by decide +kernel⟩
  | j + 2, h => cases h
theorem lki_2 : decode lb_2 (4 * lf_2.length + 0) = .ok (.invokestatic 27, 3) := by decide +kernel
theorem lkr_2 : decode lb_2 (4 * lf_2.length + 0 + 3) = .ok (.ireturn, 1) := by decide +kernel
def lb_3 : ByteArray := ⟨#[42, 180, 0, 17, 42, 180, 0, 19, 184, 0, 27, 172]⟩
def lf_3 : List (Nat × Nat) := [(17, 16), (19, 18)]
theorem lk_3 : lm_ok ls_3 "ContourLabels$State" lb_3 1 27 23 26 22 lf_3 := by unfold lm_ok; decide +kernel
theorem lkd_3 : ∀ (j : Nat) (q : Nat × Nat), lf_3[j]? = some q → decode lb_3 (4 * j) = .ok (.aload_n 0, 1) ∧ decode lb_3 (4 * j + 1) = .ok (.getfield q.1, 3) := by
  intro j q h
  match j, h with
  | 0, h => cases h; exact ⟨by decide +kernel, by decide +kernel⟩
  | 1, h => cases h; exact ⟨by decide +kernel, by decide +kernel⟩
  | j + 2, h => cases h
theorem lki_3 : decode lb_3 (4 * lf_3.length + 0) = .ok (.invokestatic 27, 3) := by decide +kernel
theorem lkr_3 : decode lb_3 (4 * lf_3.length + 0 + 3) = .ok (.ireturn, 1) := by decide +kernel
def lb_4 : ByteArray := ⟨#[42, 180, 0, 18, 42, 180, 0, 20, 42, 180, 0, 22, 182, 0, 30, 172]⟩
def lf_4 : List (Nat × Nat) := [(18, 17), (20, 19), (22, 21)]
theorem lk_4 : lm_ok ls_4 "ContourLabels$State" lb_4 1 30 26 29 25 lf_4 := by unfold lm_ok; decide +kernel
theorem lkd_4 : ∀ (j : Nat) (q : Nat × Nat), lf_4[j]? = some q → decode lb_4 (4 * j) = .ok (.aload_n 0, 1) ∧ decode lb_4 (4 * j + 1) = .ok (.getfield q.1, 3) := by
  intro j q h
  match j, h with
  | 0, h => cases h; exact ⟨by decide +kernel, by decide +kernel⟩
  | 1, h => cases h; exact ⟨by decide +kernel, by decide +kernel⟩
  | 2, h => cases h; exact ⟨by decide +kernel, by decide +kernel⟩
  | j + 3, h => cases h
theorem lki_4 : decode lb_4 (4 * lf_4.length + 0) = .ok (.invokevirtual 30, 3) := by decide +kernel
theorem lkr_4 : decode lb_4 (4 * lf_4.length + 0 + 3) = .ok (.ireturn, 1) := by decide +kernel
def lb_5 : ByteArray := ⟨#[42, 180, 0, 16, 42, 180, 0, 18, 43, 184, 0, 26, 172]⟩
def lf_5 : List (Nat × Nat) := [(16, 15), (18, 17)]
theorem lk_5 : lm_ok ls_5 "ContourLabels$TextReader" lb_5 2 26 22 25 21 lf_5 := by unfold lm_ok; decide +kernel
theorem lkd_5 : ∀ (j : Nat) (q : Nat × Nat), lf_5[j]? = some q → decode lb_5 (4 * j) = .ok (.aload_n 0, 1) ∧ decode lb_5 (4 * j + 1) = .ok (.getfield q.1, 3) := by
  intro j q h
  match j, h with
  | 0, h => cases h; exact ⟨by decide +kernel, by decide +kernel⟩
  | 1, h => cases h; exact ⟨by decide +kernel, by decide +kernel⟩
  | j + 2, h => cases h
theorem lka_5 : decode lb_5 (4 * lf_5.length) = .ok (.aload_n 1, 1) := by decide +kernel
theorem lki_5 : decode lb_5 (4 * lf_5.length + 1) = .ok (.invokestatic 26, 3) := by decide +kernel
theorem lkr_5 : decode lb_5 (4 * lf_5.length + 1 + 3) = .ok (.ireturn, 1) := by decide +kernel
def lb_6 : ByteArray := ⟨#[42, 180, 0, 17, 42, 180, 0, 19, 43, 184, 0, 27, 172]⟩
def lf_6 : List (Nat × Nat) := [(17, 16), (19, 18)]
theorem lk_6 : lm_ok ls_6 "ContourLabels$TextReader" lb_6 2 27 23 26 22 lf_6 := by unfold lm_ok; decide +kernel
theorem lkd_6 : ∀ (j : Nat) (q : Nat × Nat), lf_6[j]? = some q → decode lb_6 (4 * j) = .ok (.aload_n 0, 1) ∧ decode lb_6 (4 * j + 1) = .ok (.getfield q.1, 3) := by
  intro j q h
  match j, h with
  | 0, h => cases h; exact ⟨by decide +kernel, by decide +kernel⟩
  | 1, h => cases h; exact ⟨by decide +kernel, by decide +kernel⟩
  | j + 2, h => cases h
theorem lka_6 : decode lb_6 (4 * lf_6.length) = .ok (.aload_n 1, 1) := by decide +kernel
theorem lki_6 : decode lb_6 (4 * lf_6.length + 1) = .ok (.invokestatic 27, 3) := by decide +kernel
theorem lkr_6 : decode lb_6 (4 * lf_6.length + 1 + 3) = .ok (.ireturn, 1) := by decide +kernel
def lb_7 : ByteArray := ⟨#[42, 180, 0, 15, 184, 0, 23, 172]⟩
def lf_7 : List (Nat × Nat) := [(15, 14)]
theorem lk_7 : lm_ok ls_7 "ContourLabels$State" lb_7 1 23 19 22 18 lf_7 := by unfold lm_ok; decide +kernel
theorem lkd_7 : ∀ (j : Nat) (q : Nat × Nat), lf_7[j]? = some q → decode lb_7 (4 * j) = .ok (.aload_n 0, 1) ∧ decode lb_7 (4 * j + 1) = .ok (.getfield q.1, 3) := by
  intro j q h
  match j, h with
  | 0, h => cases h; exact ⟨by decide +kernel, by decide +kernel⟩
  | j + 1, h => cases h
theorem lki_7 : decode lb_7 (4 * lf_7.length + 0) = .ok (.invokestatic 23, 3) := by decide +kernel
theorem lkr_7 : decode lb_7 (4 * lf_7.length + 0 + 3) = .ok (.ireturn, 1) := by decide +kernel
def lb_8 : ByteArray := ⟨#[42, 180, 0, 15, 184, 0, 23, 172]⟩
def lf_8 : List (Nat × Nat) := [(15, 14)]
theorem lk_8 : lm_ok ls_8 "ContourLabels$State" lb_8 1 23 19 22 18 lf_8 := by unfold lm_ok; decide +kernel
theorem lkd_8 : ∀ (j : Nat) (q : Nat × Nat), lf_8[j]? = some q → decode lb_8 (4 * j) = .ok (.aload_n 0, 1) ∧ decode lb_8 (4 * j + 1) = .ok (.getfield q.1, 3) := by
  intro j q h
  match j, h with
  | 0, h => cases h; exact ⟨by decide +kernel, by decide +kernel⟩
  | j + 1, h => cases h
theorem lki_8 : decode lb_8 (4 * lf_8.length + 0) = .ok (.invokestatic 23, 3) := by decide +kernel
theorem lkr_8 : decode lb_8 (4 * lf_8.length + 0 + 3) = .ok (.ireturn, 1) := by decide +kernel
def lb_9 : ByteArray := ⟨#[42, 180, 0, 15, 184, 0, 23, 172]⟩
def lf_9 : List (Nat × Nat) := [(15, 14)]
theorem lk_9 : lm_ok ls_9 "ContourLabels$State" lb_9 1 23 19 22 18 lf_9 := by unfold lm_ok; decide +kernel
theorem lkd_9 : ∀ (j : Nat) (q : Nat × Nat), lf_9[j]? = some q → decode lb_9 (4 * j) = .ok (.aload_n 0, 1) ∧ decode lb_9 (4 * j + 1) = .ok (.getfield q.1, 3) := by
  intro j q h
  match j, h with
  | 0, h => cases h; exact ⟨by decide +kernel, by decide +kernel⟩
  | j + 1, h => cases h
theorem lki_9 : decode lb_9 (4 * lf_9.length + 0) = .ok (.invokestatic 23, 3) := by decide +kernel
theorem lkr_9 : decode lb_9 (4 * lf_9.length + 0 + 3) = .ok (.ireturn, 1) := by decide +kernel
def lb_10 : ByteArray := ⟨#[42, 180, 0, 19, 42, 180, 0, 21, 42, 180, 0, 23, 182, 0, 31, 172]⟩
def lf_10 : List (Nat × Nat) := [(19, 18), (21, 20), (23, 22)]
theorem lk_10 : lm_ok ls_10 "ContourLabels$State" lb_10 1 31 27 30 26 lf_10 := by unfold lm_ok; decide +kernel
theorem lkd_10 : ∀ (j : Nat) (q : Nat × Nat), lf_10[j]? = some q → decode lb_10 (4 * j) = .ok (.aload_n 0, 1) ∧ decode lb_10 (4 * j + 1) = .ok (.getfield q.1, 3) := by
  intro j q h
  match j, h with
  | 0, h => cases h; exact ⟨by decide +kernel, by decide +kernel⟩
  | 1, h => cases h; exact ⟨by decide +kernel, by decide +kernel⟩
  | 2, h => cases h; exact ⟨by decide +kernel, by decide +kernel⟩
  | j + 3, h => cases h
theorem lki_10 : decode lb_10 (4 * lf_10.length + 0) = .ok (.invokevirtual 31, 3) := by decide +kernel
theorem lkr_10 : decode lb_10 (4 * lf_10.length + 0 + 3) = .ok (.ireturn, 1) := by decide +kernel
def lb_11 : ByteArray := ⟨#[42, 180, 0, 19, 42, 180, 0, 21, 42, 180, 0, 23, 182, 0, 31, 172]⟩
def lf_11 : List (Nat × Nat) := [(19, 18), (21, 20), (23, 22)]
theorem lk_11 : lm_ok ls_11 "ContourLabels$State" lb_11 1 31 27 30 26 lf_11 := by unfold lm_ok; decide +kernel
theorem lkd_11 : ∀ (j : Nat) (q : Nat × Nat), lf_11[j]? = some q → decode lb_11 (4 * j) = .ok (.aload_n 0, 1) ∧ decode lb_11 (4 * j + 1) = .ok (.getfield q.1, 3) := by
  intro j q h
  match j, h with
  | 0, h => cases h; exact ⟨by decide +kernel, by decide +kernel⟩
  | 1, h => cases h; exact ⟨by decide +kernel, by decide +kernel⟩
  | 2, h => cases h; exact ⟨by decide +kernel, by decide +kernel⟩
  | j + 3, h => cases h
theorem lki_11 : decode lb_11 (4 * lf_11.length + 0) = .ok (.invokevirtual 31, 3) := by decide +kernel
theorem lkr_11 : decode lb_11 (4 * lf_11.length + 0 + 3) = .ok (.ireturn, 1) := by decide +kernel
def lb_12 : ByteArray := ⟨#[42, 180, 0, 15, 43, 184, 0, 23, 172]⟩
def lf_12 : List (Nat × Nat) := [(15, 14)]
theorem lk_12 : lm_ok ls_12 "ContourLabels$TextReader" lb_12 2 23 19 22 18 lf_12 := by unfold lm_ok; decide +kernel
theorem lkd_12 : ∀ (j : Nat) (q : Nat × Nat), lf_12[j]? = some q → decode lb_12 (4 * j) = .ok (.aload_n 0, 1) ∧ decode lb_12 (4 * j + 1) = .ok (.getfield q.1, 3) := by
  intro j q h
  match j, h with
  | 0, h => cases h; exact ⟨by decide +kernel, by decide +kernel⟩
  | j + 1, h => cases h
theorem lka_12 : decode lb_12 (4 * lf_12.length) = .ok (.aload_n 1, 1) := by decide +kernel
theorem lki_12 : decode lb_12 (4 * lf_12.length + 1) = .ok (.invokestatic 23, 3) := by decide +kernel
theorem lkr_12 : decode lb_12 (4 * lf_12.length + 1 + 3) = .ok (.ireturn, 1) := by decide +kernel
def lb_13 : ByteArray := ⟨#[42, 180, 0, 16, 42, 180, 0, 18, 43, 184, 0, 26, 172]⟩
def lf_13 : List (Nat × Nat) := [(16, 15), (18, 17)]
theorem lk_13 : lm_ok ls_13 "ContourLabels$TextReader" lb_13 2 26 22 25 21 lf_13 := by unfold lm_ok; decide +kernel
theorem lkd_13 : ∀ (j : Nat) (q : Nat × Nat), lf_13[j]? = some q → decode lb_13 (4 * j) = .ok (.aload_n 0, 1) ∧ decode lb_13 (4 * j + 1) = .ok (.getfield q.1, 3) := by
  intro j q h
  match j, h with
  | 0, h => cases h; exact ⟨by decide +kernel, by decide +kernel⟩
  | 1, h => cases h; exact ⟨by decide +kernel, by decide +kernel⟩
  | j + 2, h => cases h
theorem lka_13 : decode lb_13 (4 * lf_13.length) = .ok (.aload_n 1, 1) := by decide +kernel
theorem lki_13 : decode lb_13 (4 * lf_13.length + 1) = .ok (.invokestatic 26, 3) := by decide +kernel
theorem lkr_13 : decode lb_13 (4 * lf_13.length + 1 + 3) = .ok (.ireturn, 1) := by decide +kernel
def lb_14 : ByteArray := ⟨#[42, 180, 0, 15, 43, 184, 0, 23, 172]⟩
def lf_14 : List (Nat × Nat) := [(15, 14)]
theorem lk_14 : lm_ok ls_14 "ContourLabels$TextReader" lb_14 2 23 19 22 18 lf_14 := by unfold lm_ok; decide +kernel
theorem lkd_14 : ∀ (j : Nat) (q : Nat × Nat), lf_14[j]? = some q → decode lb_14 (4 * j) = .ok (.aload_n 0, 1) ∧ decode lb_14 (4 * j + 1) = .ok (.getfield q.1, 3) := by
  intro j q h
  match j, h with
  | 0, h => cases h; exact ⟨by decide +kernel, by decide +kernel⟩
  | j + 1, h => cases h
theorem lka_14 : decode lb_14 (4 * lf_14.length) = .ok (.aload_n 1, 1) := by decide +kernel
theorem lki_14 : decode lb_14 (4 * lf_14.length + 1) = .ok (.invokestatic 23, 3) := by decide +kernel
theorem lkr_14 : decode lb_14 (4 * lf_14.length + 1 + 3) = .ok (.ireturn, 1) := by decide +kernel
def lb_15 : ByteArray := ⟨#[42, 180, 0, 15, 43, 184, 0, 23, 172]⟩
def lf_15 : List (Nat × Nat) := [(15, 14)]
theorem lk_15 : lm_ok ls_15 "ContourLabels$TextReader" lb_15 2 23 19 22 18 lf_15 := by unfold lm_ok; decide +kernel
theorem lkd_15 : ∀ (j : Nat) (q : Nat × Nat), lf_15[j]? = some q → decode lb_15 (4 * j) = .ok (.aload_n 0, 1) ∧ decode lb_15 (4 * j + 1) = .ok (.getfield q.1, 3) := by
  intro j q h
  match j, h with
  | 0, h => cases h; exact ⟨by decide +kernel, by decide +kernel⟩
  | j + 1, h => cases h
theorem lka_15 : decode lb_15 (4 * lf_15.length) = .ok (.aload_n 1, 1) := by decide +kernel
theorem lki_15 : decode lb_15 (4 * lf_15.length + 1) = .ok (.invokestatic 23, 3) := by decide +kernel
theorem lkr_15 : decode lb_15 (4 * lf_15.length + 1 + 3) = .ok (.ireturn, 1) := by decide +kernel
def lb_16 : ByteArray := ⟨#[43, 184, 0, 17, 172]⟩
def lf_16 : List (Nat × Nat) := []
theorem lk_16 : lm_ok ls_16 "ContourLabels$TextReader" lb_16 2 17 14 16 13 lf_16 := by unfold lm_ok; decide +kernel
theorem lkd_16 : ∀ (j : Nat) (q : Nat × Nat), lf_16[j]? = some q → decode lb_16 (4 * j) = .ok (.aload_n 0, 1) ∧ decode lb_16 (4 * j + 1) = .ok (.getfield q.1, 3) := fun j q h => by cases h
theorem lka_16 : decode lb_16 (4 * lf_16.length) = .ok (.aload_n 1, 1) := by decide +kernel
theorem lki_16 : decode lb_16 (4 * lf_16.length + 1) = .ok (.invokestatic 17, 3) := by decide +kernel
theorem lkr_16 : decode lb_16 (4 * lf_16.length + 1 + 3) = .ok (.ireturn, 1) := by decide +kernel
def lb_17 : ByteArray := ⟨#[42, 180, 0, 15, 43, 184, 0, 23, 172]⟩
def lf_17 : List (Nat × Nat) := [(15, 14)]
theorem lk_17 : lm_ok ls_17 "ContourLabels$TextReader" lb_17 2 23 19 22 18 lf_17 := by unfold lm_ok; decide +kernel
theorem lkd_17 : ∀ (j : Nat) (q : Nat × Nat), lf_17[j]? = some q → decode lb_17 (4 * j) = .ok (.aload_n 0, 1) ∧ decode lb_17 (4 * j + 1) = .ok (.getfield q.1, 3) := by
  intro j q h
  match j, h with
  | 0, h => cases h; exact ⟨by decide +kernel, by decide +kernel⟩
  | j + 1, h => cases h
theorem lka_17 : decode lb_17 (4 * lf_17.length) = .ok (.aload_n 1, 1) := by decide +kernel
theorem lki_17 : decode lb_17 (4 * lf_17.length + 1) = .ok (.invokestatic 23, 3) := by decide +kernel
theorem lkr_17 : decode lb_17 (4 * lf_17.length + 1 + 3) = .ok (.ireturn, 1) := by decide +kernel
section KLM3
variable {p : Program} {l : Launch} {e : Env} {R : Room} {s : State} {m : MethodId} {args : Array Value} {below : List Frame} {meth : Method} {c : Code} {H : Heap} {locs : List Loc} {cells slots : Nat} {Q : State → Prop}
variable {cc : ByteArray} {pc : Nat} {ls : Array Slot} {rest : List Value} {D : kG} {A : Nat → Prop} {a : Nat} {H0 : Heap}
theorem kl_ret {P : Bool → Heap → Prop} {A1 : Nat → Prop} {av : Array Value} : ∀ st v t, kQb P A1 av st (.returned v) t → ∃ bo : Bool, v = some (.int (kI (kb bo))) := fun st v t h => by
  obtain ⟨⟨r, u, h1, h2, h3⟩, h4⟩ := h
  cases h1
  exact ⟨u, by rw [h2]⟩
theorem kx_aastL (hx : p.tables.exec = Jvm.exec) (hb : c.code = cc) (hK : kK D s) {t : Nat} {E : String} (ht : (kTys D)[t]? = some (D.2.1 t, .object E)) {n : Nat} {g : Nat → Option Nat} (hA : kAq D H a t n g) (hS0 : va_S A H0 H locs) (hAa : A a) {i : Int} (j : Nat) (hj : i = (j : Int)) (hn : j < n) (hn31 : n < 2147483648) {v k : Nat} {vs : List Value} (hlm : kLm D H v k vs) {q : MethodName × Nat × Nat × Lambda.Shape} (hq : kLmL[k]? = some q) (hE : q.2.2.2.iface = E) (d : decode cc pc = .ok (.aastore, 1))
    (kk : ∀ (H1 : Heap) (locs1 : List Loc), kAq D H1 a t n (kupq g j (some v)) → kUp H a H1 → va_S A H0 H1 locs1 → W p l e R s m args below meth c H1 locs1 cells slots Q (F0 m (pc + 1) ls rest)) : W p l e R s m args below meth c H locs cells slots Q (F0 m pc ls (.ref v :: .int (kI i) :: .ref a :: rest)) := by
  obtain ⟨⟨cl9, sl9, mo9, ha9, vm9⟩, hlm, hce1, hce2, hce3⟩ := hlm
  dsimp only at hce1 hce2 hce3
  subst hce1 hce2 hce3
  obtain ⟨m', kd, cf, i0, p0, l0, hm, hk, hcf, hsh, hfind, hmade, hcall, hl⟩ := hK.lm hq
  obtain ⟨dk, kC, ok, tk, file, cfK, object, iface', tt, lay, methods, tgt, found, -, hkC, -⟩ := Lambda.isMade_spec hmade
  obtain ⟨i2, hi2, hasg, hway⟩ := State.lambdaCallable_spec hcall
  obtain ⟨kA9, comp, k1, k2, k3, -⟩ := (hK.va.2 t _ ht).2
  obtain ⟨kE, hkE, -⟩ := Vm.findClass_spec k3
  rw [hE] at hi2
  cases k3.symm.trans hi2
  have hin := kI_in hj hn hn31
  refine W.aast hx hb (kP1 hA 0 _ rfl) (fun q h => by cases h) (fun h => by cases h) k1 k2 rfl hkE ⟨fun q => hin (Or.inl q), by show _ < (arrV _ _ _).slots.size; rw [arrV_size]; exact Nat.not_le.mp fun q => hin (Or.inr q)⟩ hlm (fun q h => by cases h) hkC hasg rfl rfl d fun H1 e1 z oq => ?_
  refine kk H1 _ ?_ ⟨z, oq⟩ (hS0.put z oq hAa)
  show H1[a]? = some (vp_cell _ _)
  rw [e1, vp_cell_q, vp_cell_q, arrV_store, kI_cl hj (by omega)]
  congr 2
  funext q
  by_cases hq : q = j
  · subst hq
    simp [updV, kupq, va_rf]
  · simp [updV, kupq, hq]
theorem kK.l0 (hK : kK D s) (hS : va_S A s.heap H locs) (hB : ∀ q, A q → kBase D ≤ q) : kLm D H (D.2.2.2 500) 15 [] := by
  have h := hK.c0
  exact kLm.fr (H := s.heap) (A := A) (vs := []) h.1 hS.toFr (fun z => h.2 (hB _ z))
theorem kx_lam0 (hx : p.tables.exec = Jvm.exec) (hb : c.code = cc) {nL : Nat} (hml : c.maxLocals = nL) (hsz0 : ls.size = nL) (hK : kK D s) {x : MethodName} (hnm : s.methodNamed? x = some m) {index : Nat} {σ : Lambda.Shape} (hq : kLmL[15]? = some (x, pc, index, σ)) (hwords : (rest.map fun v => v.category).sum + 3072 ≤ R.locals) (d : decode cc pc = .ok (.invokedynamic index, 5))
    (kk : W p l e R s m args below meth c H locs cells slots Q (F0 m (pc + 5) ls (.ref (D.2.2.2 500) :: rest))) : W p l e R s m args below meth c H locs cells slots Q (F0 m pc ls rest) := by
  obtain ⟨m', k, cf, i0, p0, l0, hm, hk, hcf, hsh, hfind, hmade, hcall, hl⟩ := hK.lm hq
  cases hnm.symm.trans hm
  rw [if_pos rfl] at hl
  subst hl
  intro T hT X
  obtain ⟨t2, a1, b1⟩ := kk T hT X
  exact ⟨t2, X.lambdaConstant hx (g := F0 m pc ls rest) rfl (hsz0.trans hml.symm) (by rw [hb]; exact d) hk hfind (by
    have hw : e.platform.lambdaLinkWords = 3072 := by rw [X.admits.platform]
    rw [hw]; show 2 * 0 + (rest.map fun v => v.category).sum + 3072 ≤ R.locals; omega) a1, b1⟩
end KLM3

