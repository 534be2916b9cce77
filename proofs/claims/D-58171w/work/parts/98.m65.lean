/-! MATH 65: what the law's cases need -/
theorem st_placesTo_rng (S : Ls) (gap : Int) (l : Nat) : ∀ k : Nat, 0 ≤ st_placesTo S gap l k ∧ st_placesTo S gap l k ≤ k := by
  intro k
  induction k with
  | zero => exact ⟨Int.le_refl _, Int.le_refl _⟩
  | succ k ih => rw [st_placesTo]; split <;> omega
theorem st_ptsTo_rng (S : Ls) (l : Nat) : ∀ k : Nat, 0 ≤ st_ptsTo S l k ∧ st_ptsTo S l k ≤ k := by
  intro k
  induction k with
  | zero => exact ⟨Int.le_refl _, Int.le_refl _⟩
  | succ k ih => rw [st_ptsTo]; split <;> omega
theorem st_nearIn_rng (S : Ls) (gap : Int) (i : Nat) (acc : Int) : ∀ k : Nat, acc ≤ st_nearIn S gap i acc k ∧ st_nearIn S gap i acc k ≤ acc + k := by
  intro k
  induction k with
  | zero => rw [st_nearIn]; omega
  | succ k ih => rw [st_nearIn]; split <;> omega
theorem st_nearTo_rng (S : Ls) (gap : Int) : ∀ k : Nat, k ≤ 8 → 0 ≤ st_nearTo S gap k ∧ st_nearTo S gap k ≤ 8 * k := by
  intro k
  induction k with
  | zero => intro _; rw [st_nearTo]; omega
  | succ k ih => intro h; rw [st_nearTo]; have h1 := ih (by omega); have h2 := st_nearIn_rng S gap k (st_nearTo S gap k) k; omega
theorem st_near_rng {S : Ls} {gap : Int} (h : LsOK S gap) : 0 ≤ st_near S gap ∧ st_near S gap ≤ 64 := by
  have h8 := h.1
  have h2 := st_nearTo_rng S gap S.length h8
  unfold st_near
  omega
theorem st_byLvTo_rng (S : Ls) (pl : Int) : ∀ k : Nat, -1 ≤ st_byLvTo S pl k ∧ st_byLvTo S pl k < k := by
  intro k
  induction k with
  | zero => rw [st_byLvTo]; omega
  | succ k ih => rw [st_byLvTo]; split <;> omega
theorem rd_rng {L : Ln} (h : LnOK L) : -2147483648 ≤ (if ln_lb L = -1 then -1 else if ln_left L = true then ln_pos L ((ln_lb L).toNat + ln_size L - 1) else ln_pos L (ln_lb L).toNat) ∧ (if ln_lb L = -1 then -1 else if ln_left L = true then ln_pos L ((ln_lb L).toNat + ln_size L - 1) else ln_pos L (ln_lb L).toNat) ≤ 2147483647 := by
  have h1 := h.lb
  have h2 := ln_size_23 L
  split
  · omega
  · rename_i hn
    have h3 := h1.2 hn
    split
    · have := h.pos (k := (ln_lb L).toNat + ln_size L - 1) (by omega); omega
    · have := h.pos (k := (ln_lb L).toNat) (by omega); omega
theorem bo_rng {L : Ln} (h : LnOK L) (k : Nat) : -2147483648 ≤ (if ln_isPlace L (k : Int) = true then ln_bends L (k : Int) else -1) ∧ (if ln_isPlace L (k : Int) = true then ln_bends L (k : Int) else -1) ≤ 2147483647 := by
  have := ln_bends_rng h (k : Int)
  split <;> omega
section RF
variable {S : Ls} {gap x y : Int} {ln pl : Nat}
theorem rb1 (h : ¬ (0 ≤ y ∧ y ≤ 383)) : ref_b S x y = 1 := if_pos h
theorem rb2 (h : 0 ≤ y ∧ y ≤ 383) (h2 : ¬ (0 ≤ x ∧ x ≤ 99)) : ref_b S x y = 2 := by unfold ref_b; rw [if_neg (by omega), if_pos h2]
theorem rb3 (h : 0 ≤ y ∧ y ≤ 383) (h2 : 0 ≤ x ∧ x ≤ 99) (h3 : S.length = 8 ∨ st_owner S y ≠ -1) : ref_b S x y = 3 := by unfold ref_b; rw [if_neg (by omega), if_neg (by omega), if_pos h3]
theorem rb0 (h : 0 ≤ y ∧ y ≤ 383) (h2 : 0 ≤ x ∧ x ≤ 99) (h3 : ¬ (S.length = 8 ∨ st_owner S y ≠ -1)) : ref_b S x y = 0 := by unfold ref_b; rw [if_neg (by omega), if_neg (by omega), if_neg h3]
theorem rs1 (h : ¬ (0 ≤ x ∧ x < S.length)) : ref_s S x y = 1 := if_pos h
theorem rs2 (h : ln < S.length) (h2 : ¬ (0 ≤ y ∧ y ≤ 7)) : ref_s S (ln : Int) y = 2 := by unfold ref_s; rw [if_neg (by omega), if_pos h2]
theorem rs3 (h : ln < S.length) (h2 : 0 ≤ y ∧ y ≤ 7) (h3 : st_whyNot S ln y ≠ 0) : ref_s S (ln : Int) y = 3 := by
  have := st_whyNot_rng S ln y
  unfold ref_s; rw [if_neg (by omega), if_neg (by omega), Int.toNat_natCast, if_pos (by omega)]
theorem rs0 (h : ln < S.length) (h2 : 0 ≤ y ∧ y ≤ 7) (h3 : st_whyNot S ln y = 0) : ref_s S (ln : Int) y = 0 := by
  unfold ref_s; rw [if_neg (by omega), if_neg (by omega), Int.toNat_natCast, if_neg (by omega)]
theorem rw1 (h : ¬ (0 ≤ x ∧ x < S.length)) : ref_w S x = 1 := if_neg h
theorem rw0 (h : ln < S.length) : ref_w S (ln : Int) = 0 := if_pos (by omega)
theorem rl1 (h : ¬ (0 ≤ x ∧ x < S.length)) : ref_l S gap x y = 1 := if_pos h
theorem rl1n (h : ln < S.length) (h2 : ¬ (0 ≤ y ∧ y ≤ ln_n (st_ln S ln))) : ref_l S gap (ln : Int) y = 1 := by unfold ref_l; rw [if_neg (by omega), Int.toNat_natCast, if_pos h2]
theorem rl2 (h : ln < S.length) (h2 : pl ≤ ln_n (st_ln S ln)) (h3 : st_whyL S gap ln pl ≠ 0) : ref_l S gap (ln : Int) (pl : Int) = 2 := by
  have := st_whyL_rng S gap ln pl
  unfold ref_l; rw [if_neg (by omega), Int.toNat_natCast, Int.toNat_natCast, if_neg (by omega), if_pos (by omega)]
theorem rl0 (h : ln < S.length) (h2 : pl ≤ ln_n (st_ln S ln)) (h3 : st_whyL S gap ln pl = 0) : ref_l S gap (ln : Int) (pl : Int) = 0 := by
  unfold ref_l; rw [if_neg (by omega), Int.toNat_natCast, Int.toNat_natCast, if_neg (by omega), if_neg (by omega)]
theorem ru1 (h : ¬ (0 ≤ x ∧ x < S.length)) : ref_u S x = 1 := if_pos h
theorem ru2 (h : ln < S.length) (h2 : ln_lb (st_ln S ln) = -1) : ref_u S (ln : Int) = 2 := by unfold ref_u; rw [if_neg (by omega), Int.toNat_natCast, if_pos h2]
theorem ru0 (h : ln < S.length) (h2 : ln_lb (st_ln S ln) ≠ -1) : ref_u S (ln : Int) = 0 := by unfold ref_u; rw [if_neg (by omega), Int.toNat_natCast, if_neg h2]
theorem rbe1 (h : ¬ (0 ≤ x ∧ x < S.length)) : ref_best S gap x = 1 := if_pos h
theorem rbe2 (h : ln < S.length) (h2 : st_best S gap ln = -1) : ref_best S gap (ln : Int) = 2 := by unfold ref_best; rw [if_neg (by omega), Int.toNat_natCast, if_pos h2]
theorem rbe0 (h : ln < S.length) (h2 : st_best S gap ln ≠ -1) : ref_best S gap (ln : Int) = 0 := by unfold ref_best; rw [if_neg (by omega), Int.toNat_natCast, if_neg h2]
theorem rg1 (h : ¬ (1 ≤ x ∧ x ≤ 6)) : ref_g x = 1 := if_neg h
theorem rg0 (h : 1 ≤ x ∧ x ≤ 6) : ref_g x = 0 := if_pos h
theorem lbl_in (h : st_whyL S gap ln pl = 0) : (pl : Int) + ln_size (st_ln S ln) - 1 ≤ ln_n (st_ln S ln) := by
  have h1 := ln_isPlace_le (st_whyL_place h)
  omega
theorem LsOK.lbl (hok : LsOK S gap) (h : ln < S.length) (h2 : st_whyL S gap ln pl = 0) : LsOK (S.set ln (w_lb (st_ln S ln) (pl : Int))) gap := hok.set h ((hok.ln h).setLb (Or.inr ⟨by omega, lbl_in h2⟩))
theorem LsOK.bst (hok : LsOK S gap) (h : ln < S.length) : LsOK (S.set ln (w_lb (st_ln S ln) (st_best S gap ln))) gap := hok.set h ((hok.ln h).setLb (by rcases st_best_ok S gap ln with z | z; exact Or.inl z; exact Or.inr ⟨z.1, z.2.2.2⟩))
theorem LsOK.stp (hok : LsOK S gap) (h : ln < S.length) (h2 : 0 ≤ y ∧ y ≤ 7) (h3 : st_whyNot S ln y = 0) : LsOK (S.set ln (w_step (st_ln S ln) y)) gap := by
  have h4 := hok.exSt (x := (ln : Int)) (rs0 h h2 h3)
  rwa [Int.toNat_natCast] at h4
theorem stp_n (hok : LsOK S gap) (h : ln < S.length) (h2 : 0 ≤ y ∧ y ≤ 7) (h3 : st_whyNot S ln y = 0) : ln_n (st_ln S ln) < 60 ∧ nx (ln_end (st_ln S ln)) y ≠ -1 := by
  have h4 := ref_s_0 hok (rs0 h h2 h3)
  rw [Int.toNat_natCast] at h4
  exact h4.2.2
theorem best_rng (hok : LsOK S gap) (h : ln < S.length) : -1 ≤ st_best S gap ln ∧ st_best S gap ln ≤ 60 := by
  have h1 := (hok.ln h).n
  rcases st_best_ok S gap ln with z | z <;> omega
theorem erase_len (h : ln < S.length) : (((S.eraseIdx ln).length : Nat) : Int) = (S.length : Int) - 1 := by
  rw [List.length_eraseIdx, if_pos h]; omega
end RF
/-- the law's world between two calls -/
def lwI (D : kG) (s : State) (b c0 c1 x1 mm out outD j n : Nat) (σ : Sg) (sn : Option Sg) (hs : List Sg) (t : List Int) (H : Heap) (locs : List Loc) (ls : Array Slot) : Prop :=
  va_S (kNW s.heap) s.heap H locs ∧ lv_has ls 9 [(0, .ref b), (1, .ref x1), (2, .ref mm), (3, .ref out), (4, .ref outD), (5, .int (kI ((3 * j : Nat) : Int)))] ∧ kW D H c0 c1 x1 σ sn hs t ∧ kM D H c0 out mm σ sn hs t ∧ (∃ go, kAl D H out 1 go) ∧ (∃ gd, kAd D H outD 1 gd) ∧ c1 ≤ H.size ∧ t.length ≤ n
/-- what stands still -/
def lwC (D : kG) (p : Program) (l : Launch) (s : State) (m : MethodId) (meth : Method) (c : Code) (b L c0 c1 out outD : Nat) (xs : Nat → Int32) : Prop :=
  p.tables.exec = Jvm.exec ∧ c.code = code ∧ c.maxLocals = 9 ∧ s.vm.findClass RX0 = some m.cls ∧ (∀ w ∈ lw_all, w.before #[Value.ref b] s = true) ∧ meth.locks = false ∧ kK D s ∧ l.stackTraces = false ∧ va_X b L xs s s.heap ∧ b < s.heap.size ∧ kBase D = s.heap.size ∧ L ≤ 72 ∧ (kBase D ≤ c0 ∧ c0 ≤ out ∧ out < outD ∧ outD < c1)
abbrev lwR : Room := { frames := 8192, cells := 1200144, slots := 5496058, locals := 104096 }
/-- a fact kept out of sight -/
def Hd (P : Prop) : Prop := P
theorem Hd.sm {x y : Nat} (h : Hd (x ≠ y)) : y ≠ x := Ne.symm h
/-- what two worlds have apart -/
theorem out_of {q c0 c1 x : Nat} (h : q < c0 ∨ c1 ≤ q) (h1 : c0 ≤ x) (h2 : x < c1) : x ≠ q := by omega
theorem ud_last (h : List (Ky × Sg)) (a : Ky × Sg) : ((h ++ [a]).map (fun a => a.1.1)).getD (((h ++ [a]).map (fun a => a.1.1)).length - 1) 0 = a.1.1 := by
  rw [List.map_append, List.length_append, List.getD_eq_getElem?_getD]
  simp
theorem ud_sg (h : List (Ky × Sg)) (a : Ky × Sg) (n : Nat) (hn : n = ((h ++ [a]).map Prod.snd).length) : sg_at ((h ++ [a]).map Prod.snd) (n - 1) = a.2 := by
  rw [hn, List.map_append, List.length_append]
  unfold sg_at
  rw [List.getD_eq_getElem?_getD]
  simp
theorem l_last {α : Type} (h : List α) : h = [] ∨ ∃ k a, h = k ++ [a] := by
  rcases List.eq_nil_or_concat h with z | ⟨k, a, z⟩
  · exact Or.inl z
  · exact Or.inr ⟨k, a, by rw [z]; try simp⟩
theorem l_one {α : Type} (h : List α) (h1 : h.length ≤ 1) : h = [] ∨ ∃ a, h = [a] := by
  match h, h1 with
  | [], _ => exact Or.inl rfl
  | [a], _ => exact Or.inr ⟨a, rfl⟩
  | a :: b :: k, h1 => simp at h1

