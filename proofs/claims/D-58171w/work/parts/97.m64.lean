/-! MATH 64: the model's world; rows of the law -/
def kM (D : kG) (H : Heap) (c0 c1 mm : Nat) (σ : Sg) (sn : Option Sg) (hs : List Sg) (t : List Int) : Prop := ∃ (ra sa ka ta n : Nat) (ik : Bool) (th sp : Int) (iw : Bool) (le fi se : Int) (g gs gk gt : Nat → Int),
  kO D H mm 2 [.ref ra, .ref sa, .int (kI ((n : Nat) : Int)), .ref ka, .int (kI (kb ik)), .ref ta, .int (kI ((t.length : Nat) : Int)), .int (kI th), .int (kI sp), .int (kI (kb iw)), .int (kI le), .int (kI fi), .int (kI se)] ∧
  kAi D H ra 514 g ∧ kAi D H sa 2570 gs ∧ kAi D H ka 514 gk ∧ kAi D H ta 60 gt ∧ MRow g σ.1 σ.2 ∧ MHist gs hs n ∧ ((∀ τ, sn = some τ → ik = true ∧ MRow gk τ.1 τ.2) ∧ (sn = none → ik = false)) ∧ MTx gt t ∧ t.length ≤ 60 ∧
  (((mm ≠ ra ∧ mm ≠ sa ∧ mm ≠ ka ∧ mm ≠ ta) ∧ ra ≠ sa ∧ ra ≠ ka ∧ ra ≠ ta) ∧ sa ≠ ka ∧ sa ≠ ta ∧ ka ≠ ta) ∧
  (kBase D ≤ mm ∧ kBase D ≤ ra ∧ kBase D ≤ sa ∧ kBase D ≤ ka ∧ kBase D ≤ ta) ∧ ((c0 ≤ mm ∧ mm < c1) ∧ (c0 ≤ ra ∧ ra < c1) ∧ (c0 ≤ sa ∧ sa < c1) ∧ (c0 ≤ ka ∧ ka < c1) ∧ (c0 ≤ ta ∧ ta < c1))
section KLW
variable {p : Program} {l : Launch} {e : Env} {R : Room} {s : State} {m : MethodId} {args : Array Value} {below : List Frame} {meth : Method} {c : Code} {H : Heap} {locs : List Loc} {cells slots : Nat} {Q : State → Prop}
variable {cc : ByteArray} {pc : Nat} {ls : Array Slot} {rest : List Value} {D : kG} {A : Nat → Prop} {a : Nat} {H0 : Heap}
theorem kx_sld (hx : p.tables.exec = Jvm.exec) (hb : c.code = cc) {b L : Nat} {xs : Nat → Int32} (hX : va_X b L xs s H0) (hbl : b < H0.size) (hbA : ¬ A b) (hS : va_S A H0 H locs) {i : Int} (j : Nat) (hj : i = (j : Int)) (hn : j < L) (hn31 : L < 2147483648) (d : decode cc pc = .ok (.iaload, 1)) (kk : W p l e R s m args below meth c H locs cells slots Q (F0 m (pc + 1) ls (.int (kI (xs j).toInt) :: rest))) : W p l e R s m args below meth c H locs cells slots Q (F0 m pc ls (.int (kI i) :: .ref b :: rest)) := by
  refine va_sld hx hb hX hbl hbA hS (kI_in hj hn hn31) d ?_
  rw [kI_cl hj (by omega), ← kI_self (xs j)]
  exact kk
theorem kx_slen (hx : p.tables.exec = Jvm.exec) (hb : c.code = cc) {b L : Nat} {xs : Nat → Int32} (hX : va_X b L xs s H0) (hbl : b < H0.size) (hbA : ¬ A b) (hS : va_S A H0 H locs) (d : decode cc pc = .ok (.arraylength, 1)) (kk : W p l e R s m args below meth c H locs cells slots Q (F0 m (pc + 1) ls (.int (kI ((L : Nat) : Int)) :: rest))) : W p l e R s m args below meth c H locs cells slots Q (F0 m pc ls (.ref b :: rest)) :=
  va_slen hx hb hX hbl hbA hS d kk
theorem kx_lald (hx : p.tables.exec = Jvm.exec) (hb : c.code = cc) (hK : kK D s) {n : Nat} {g : Nat → Int64} (hA : kAl D H a n g) {i : Int} (j : Nat) (hj : i = (j : Int)) (hn : j < n) (hn31 : n < 2147483648) (d : decode cc pc = .ok (.laload, 1)) (kk : W p l e R s m args below meth c H locs cells slots Q (F0 m (pc + 1) ls (.long (g j) :: rest))) : W p l e R s m args below meth c H locs cells slots Q (F0 m pc ls (.int (kI i) :: .ref a :: rest)) := by
  refine va_lald hx hb hK.va (kP1 hA) 0 2 rfl rfl (kI_in hj hn hn31) d ?_
  rw [kI_cl hj (by omega)]
  exact kk
theorem kx_dald (hx : p.tables.exec = Jvm.exec) (hb : c.code = cc) (hK : kK D s) {n : Nat} {g : Nat → UInt64} (hA : kAd D H a n g) {i : Int} (j : Nat) (hj : i = (j : Int)) (hn : j < n) (hn31 : n < 2147483648) (d : decode cc pc = .ok (.daload, 1)) (kk : W p l e R s m args below meth c H locs cells slots Q (F0 m (pc + 1) ls (.double (g j) :: rest))) : W p l e R s m args below meth c H locs cells slots Q (F0 m pc ls (.int (kI i) :: .ref a :: rest)) := by
  refine va_dald hx hb hK.va (kP1 hA) 0 3 rfl rfl (kI_in hj hn hn31) d ?_
  rw [kI_cl hj (by omega)]
  exact kk
theorem kx_lcmpE (hx : p.tables.exec = Jvm.exec) (hb : c.code = cc) {x y : Int64} (h : x = y) (d : decode cc pc = .ok (.lcmp, 1)) (kk : W p l e R s m args below meth c H locs cells slots Q (F0 m (pc + 1) ls (.int (kI 0) :: rest))) : W p l e R s m args below meth c H locs cells slots Q (F0 m pc ls (.long y :: .long x :: rest)) := by
  subst h
  refine W.lcmp hx hb d ?_
  rw [show lg_cmp x x = kI 0 by simp [lg_cmp, kI]]
  exact kk
theorem kx_dcmpE (hx : p.tables.exec = Jvm.exec) (hb : c.code = cc) {x y : UInt64} (h : x = y) (hp : dpos x) (d : decode cc pc = .ok (.dcmp .l, 1)) (kk : W p l e R s m args below meth c H locs cells slots Q (F0 m (pc + 1) ls (.int (kI 0) :: rest))) : W p l e R s m args below meth c H locs cells slots Q (F0 m pc ls (.double y :: .double x :: rest)) := by
  subst h
  refine lv_dcmp hx hb d ?_
  rw [hp.cmp]
  exact kk
theorem i63 (x : Int32) : ∃ k : Nat, k < 64 ∧ x &&& kI 63 = kI ((k : Nat) : Int) := by
  refine ⟨x.toBitVec.toNat &&& 63, Nat.lt_of_le_of_lt Nat.and_le_right (by decide), ?_⟩
  apply Int32.toBitVec_inj.mp
  apply BitVec.eq_of_toNat_eq
  have h2 : (x.toBitVec.toNat &&& 63) < 64 := Nat.lt_of_le_of_lt Nat.and_le_right (by decide)
  have h3 : (kI (((x.toBitVec.toNat &&& 63 : Nat)) : Int)).toBitVec.toNat = x.toBitVec.toNat &&& 63 := by
    show (BitVec.ofInt 32 (((x.toBitVec.toNat &&& 63 : Nat)) : Int)).toNat = _
    rw [BitVec.toNat_ofInt]
    omega
  rw [h3, Int32.toBitVec_and, BitVec.toNat_and]
  rfl
theorem kx_iand63 (hx : p.tables.exec = Jvm.exec) (hb : c.code = cc) {x : Int32} (d : decode cc pc = .ok (.iand, 1)) (kk : ∀ k : Nat, k < 64 → W p l e R s m args below meth c H locs cells slots Q (F0 m (pc + 1) ls (.int (kI ((k : Nat) : Int)) :: rest))) : W p l e R s m args below meth c H locs cells slots Q (F0 m pc ls (.int (kI 63) :: .int x :: rest)) := by
  obtain ⟨k, h1, h2⟩ := i63 x
  refine lv_iand hx hb d ?_
  rw [h2]
  exact kk k h1
end KLW
theorem i32r (x : Int32) : -2147483648 ≤ x.toInt ∧ x.toInt ≤ 2147483647 := by
  have h1 := Int32.le_toInt x
  have h2 := Int32.toInt_lt x
  omega
theorem tx_run_le (t : List Int) : ∀ (f i : Nat) (S : Ls) (gap : Int), (tx_run t f i S gap).1 ≤ f := by
  intro f
  induction f with
  | zero => intro i S gap; exact Nat.le_refl _
  | succ f ih =>
    intro i S gap
    rw [tx_run]
    split
    · split
      · have := ih ((rdW t i).2.1 + 1) (ex_one t (tsg t i) (rdW t i).2.2.1 (rdW t i).2.2.2 S gap).2.1 (ex_one t (tsg t i) (rdW t i).2.2.1 (rdW t i).2.2.2 S gap).2.2
        show _ + 1 ≤ f + 1
        omega
      · exact Nat.zero_le _
    · exact Nat.zero_le _
theorem tx_run_ok {g : Nat → Int} {t : List Int} (hT : MTx g t) : ∀ (f i : Nat) (S : Ls) (gap : Int), LsOK S gap → StG S → LsOK (tx_run t f i S gap).2.1 (tx_run t f i S gap).2.2 ∧ StG (tx_run t f i S gap).2.1 := by
  intro f
  induction f with
  | zero => intro i S gap h1 h2; exact ⟨h1, h2⟩
  | succ f ih =>
    intro i S gap h1 h2
    have k1 := ex_one_ok (t := t) (le := tsg t i) (fi := (rdW t i).2.2.1) (se := (rdW t i).2.2.2) h1
    have k2 : StG (ex_one t (tsg t i) (rdW t i).2.2.1 (rdW t i).2.2.2 S gap).2.1 := h2.one h1 (fun z j hj => by rw [show rdW t i = _ from rd_s z] at hj; dsimp only at hj; rw [Int.toNat_natCast] at hj; rw [show rdW t i = _ from rd_s z]; dsimp only; rw [Int.toNat_natCast]; exact tx_cnt_dig hT 20 (i + 1) j hj)
    rw [tx_run]
    split
    · split
      · exact ih _ _ _ k1 k2
      · exact ⟨k1, k2⟩
    · exact ⟨h1, h2⟩
theorem tx_go_ok {g : Nat → Int} {t : List Int} {S : Ls} {gap : Int} (hT : MTx g t) (h1 : LsOK S gap) (h2 : StG S) : LsOK (tx_go t S gap).2.1 (tx_go t S gap).2.2 ∧ StG (tx_go t S gap).2.1 := tx_run_ok hT _ _ _ _ h1 h2
theorem tx_lp_le {g : Nat → Int} {t : List Int} (hT : MTx g t) : ∀ (f : Nat) (w : Bool) (i : Nat), i ≤ t.length → (tx_lp t f w i).2 ≤ t.length := by
  intro f
  induction f with
  | zero => intro w i h; exact h
  | succ f ih =>
    intro w i h
    rw [tx_lp]
    split
    · split
      · exact ih _ _ (by have := (rdW_place hT (i + 1)).2.1; omega)
      · exact h
    · exact h
theorem tx_pos_le {g : Nat → Int} {t : List Int} (hT : MTx g t) : tx_pos t ≤ t.length := by
  unfold tx_pos
  split
  · exact Nat.le_refl _
  · exact tx_lp_le hT _ _ _ (by have := (rdW_place hT 0).2.1; omega)

