/-! MATH 55: lines by levels -/
theorem sorted_uniq : ∀ (A B : List Int), A.Pairwise (fun a b => a < b) → B.Pairwise (fun a b => a < b) → (∀ x, x ∈ A ↔ x ∈ B) → A = B
  | [], [], _, _, _ => rfl
  | [], b :: B, _, _, h => absurd ((h b).mpr List.mem_cons_self) List.not_mem_nil
  | a :: A, [], _, _, h => absurd ((h a).mp List.mem_cons_self) List.not_mem_nil
  | a :: A, b :: B, hA, hB, h => by
    have a1 := List.pairwise_cons.mp hA
    have b1 := List.pairwise_cons.mp hB
    have e : a = b := by
      rcases List.mem_cons.mp ((h a).mp List.mem_cons_self) with z | z
      · exact z
      · rcases List.mem_cons.mp ((h b).mpr List.mem_cons_self) with w | w
        · exact w.symm
        · have h1 := b1.1 a z
          have h2 := a1.1 b w
          omega
    subst e
    rw [sorted_uniq A B a1.2 b1.2 (fun x => ?_)]
    constructor
    · intro hx
      rcases List.mem_cons.mp ((h x).mp (List.mem_cons_of_mem _ hx)) with z | z
      · have := a1.1 x hx; omega
      · exact z
    · intro hx
      rcases List.mem_cons.mp ((h x).mpr (List.mem_cons_of_mem _ hx)) with z | z
      · have := b1.1 x hx; omega
      · exact z
def st_keys (S : Ls) : List Int := (st_ord S).map (st_key S)
theorem st_keys_len (S : Ls) : (st_keys S).length = S.length := by rw [st_keys, List.length_map, st_ord_len]
theorem st_keys_mem (S : Ls) (x : Int) : x ∈ st_keys S ↔ ∃ j, j < S.length ∧ x = st_key S j := by
  rw [st_keys, List.mem_map]
  constructor
  · rintro ⟨j, h1, h2⟩; exact ⟨j, (st_ord_mem S j).mp h1, h2.symm⟩
  · rintro ⟨j, h1, h2⟩; exact ⟨j, (st_ord_mem S j).mpr h1, h2.symm⟩
theorem st_keys_sorted {S : Ls} (h8 : S.length ≤ 8) : (st_keys S).Pairwise (fun a b => a < b) := by
  rw [st_keys, List.pairwise_map]
  refine ((st_ord_sorted S).and (st_ord_nodup S)).imp_of_mem (fun {a b} ha hb hab => ?_)
  obtain ⟨h1, h2⟩ := hab
  have ha2 := (st_ord_mem S a).mp ha
  have hb2 := (st_ord_mem S b).mp hb
  have : st_key S a ≠ st_key S b := fun e => h2 (st_key_inj (by omega) (by omega) e)
  omega
theorem st_key_rng {S : Ls} {gap : Int} (hok : LsOK S gap) {k : Nat} (hk : k < S.length) : 0 ≤ st_key S k ∧ st_key S k ≤ 1000 := by
  have h1 := (hok.ln hk).lv
  have h8 := hok.1
  unfold st_key
  omega
theorem by_put {E E2 : List (Nat × Int)} {K : Int} (hso : (E.map Prod.snd).Pairwise (fun a b => a < b)) (hE : ∃ pre post y, E = pre ++ post ∧ E2 = pre ++ (y, K) :: post ∧ (∀ q, q ∈ pre → q.2 < K) ∧ ∀ q, q ∈ post → K < q.2) : (E2.map Prod.snd).Pairwise (fun a b => a < b) ∧ (∀ x, x ∈ E2.map Prod.snd ↔ (x ∈ E.map Prod.snd ∨ x = K)) ∧ E2.length = E.length + 1 := by
  obtain ⟨pre, post, y, rfl, rfl, h1, h2⟩ := hE
  rw [List.map_append, List.pairwise_append] at hso
  obtain ⟨a1, a2, a3⟩ := hso
  refine ⟨?_, fun x => ?_, by simp; omega⟩
  · rw [List.map_append, List.map_cons, List.pairwise_append, List.pairwise_cons]
    refine ⟨a1, ⟨fun b hb => ?_, a2⟩, fun a ha b hb => ?_⟩
    · obtain ⟨q, hq, rfl⟩ := List.mem_map.mp hb
      exact h2 q hq
    · rcases List.mem_cons.mp hb with z | z
      · obtain ⟨q, hq, rfl⟩ := List.mem_map.mp ha
        rw [z]
        exact h1 q hq
      · exact a3 a ha b z
  · rw [List.map_append, List.map_cons, List.map_append, List.mem_append, List.mem_cons, List.mem_append]
    constructor
    · rintro (z | z | z)
      · exact Or.inl (Or.inl z)
      · exact Or.inr z
      · exact Or.inl (Or.inr z)
    · rintro ((z | z) | z)
      · exact Or.inl z
      · exact Or.inr (Or.inr z)
      · exact Or.inr (Or.inl z)
theorem by_nk {S : Ls} {E : List (Nat × Int)} {k : Nat} (h8 : S.length ≤ 8) (hk : k < S.length) (hmem : ∀ x, x ∈ E.map Prod.snd ↔ ∃ j, j < k ∧ x = st_key S j) : ∀ q, q ∈ E → q.2 ≠ st_key S k := by
  intro q hq e
  obtain ⟨j, hj, e2⟩ := (hmem q.2).mp (List.mem_map.mpr ⟨q, hq, rfl⟩)
  have := st_key_inj (S := S) (a := j) (b := k) (by omega) (by omega) (e2.symm.trans e)
  omega
theorem by_end {S : Ls} {E : List (Nat × Int)} {k : Nat} (h8 : S.length ≤ 8) (hk : k = S.length) (hso : (E.map Prod.snd).Pairwise (fun a b => a < b)) (hmem : ∀ x, x ∈ E.map Prod.snd ↔ ∃ j, j < k ∧ x = st_key S j) : E.map Prod.snd = st_keys S := by
  subst hk
  exact sorted_uniq _ _ hso (st_keys_sorted h8) (fun x => by rw [hmem, st_keys_mem])
theorem st_keys_nil {S : Ls} {d : Nat} (h : (st_keys S).drop d = []) : S.length ≤ d := by
  have := List.drop_eq_nil_iff.mp h
  rwa [st_keys_len] at this
theorem st_keys_head {S : Ls} {gap : Int} (hok : LsOK S gap) {d : Nat} {K : Int} {R : List Int} (h : (st_keys S).drop d = K :: R) : d < S.length ∧ K % 8 = st_byLv S (d : Int) ∧ (0 ≤ K ∧ K ≤ 1000) ∧ (st_keys S).drop (d + 1) = R := by
  have hd : d < S.length := by
    by_cases z : d < S.length
    · exact z
    · have : (st_keys S).drop d = [] := List.drop_eq_nil_iff.mpr (by rw [st_keys_len]; omega)
      rw [this] at h
      cases h
  have hl : d < (st_keys S).length := by rw [st_keys_len]; exact hd
  rw [List.drop_eq_getElem_cons hl] at h
  injection h with h1 h2
  have ho : d < (st_ord S).length := by rw [st_ord_len]; exact hd
  have hb := st_byLv_ord hok.1 hd
  have hg : (st_ord S).getD d 0 = (st_ord S)[d] := by rw [List.getD_eq_getElem?_getD, List.getElem?_eq_getElem ho]; rfl
  have hk : K = st_key S ((st_ord S).getD d 0) := by
    have h3 : (st_keys S)[d]? = some K := by rw [List.getElem?_eq_getElem hl, h1]
    unfold st_keys at h3
    rw [List.getElem?_map, List.getElem?_eq_getElem ho] at h3
    rw [hg]
    exact (Option.some.inj h3).symm
  have hr := st_key_rng hok hb.2
  refine ⟨hd, ?_, by rw [hk]; exact hr, h2⟩
  rw [hb.1, hk]
  have h8 := hok.1
  have := hb.2
  unfold st_key
  omega
theorem st_key_eq {S T : Ls} (h : ∀ j, ln_lv (st_ln S j) = ln_lv (st_ln T j)) : st_key S = st_key T := by
  funext k
  unfold st_key
  rw [h k]
theorem st_keys_eq {S T : Ls} (hl : S.length = T.length) (h : ∀ j, ln_lv (st_ln S j) = ln_lv (st_ln T j)) : st_keys S = st_keys T := by
  unfold st_keys st_ord
  rw [st_key_eq h, hl]
theorem st_cl_lv (S : Ls) : ∀ i : Nat, i ≤ S.length → ∀ j, ln_lv (st_ln (st_clTo S i) j) = ln_lv (st_ln S j) := by
  intro i
  induction i with
  | zero => intro _ j; rfl
  | succ i ih =>
    intro hi j
    rw [st_clTo, st_lv_lb (by rw [st_clTo_len]; omega)]
    exact ih (by omega) j
theorem st_la_lv {S : Ls} {gap : Int} (h : LsOK S gap) : ∀ i : Nat, i ≤ S.length → ∀ j, ln_lv (st_ln (st_laTo S gap i) j) = ln_lv (st_ln S j) := by
  intro i
  induction i with
  | zero => intro _ j; exact st_cl_lv S _ (Nat.le_refl _) j
  | succ i ih =>
    intro hi j
    have h1 := h.laTo i (by omega)
    have hll := st_laTo_len S gap i
    have hb := st_byLv_ord h1.1 (p := i) (by omega)
    rw [st_laTo, st_lv_lb (by rw [hb.1]; have := hb.2; omega)]
    exact ih (by omega) j
theorem st_la_keys {S : Ls} {gap : Int} (h : LsOK S gap) {i : Nat} (hi : i ≤ S.length) : st_keys (st_laTo S gap i) = st_keys S := st_keys_eq (st_laTo_len S gap i) (st_la_lv h i hi)
theorem ln_lb_set {S : Ls} {k : Nat} (hk : k < S.length) (v : Int) (j : Nat) : ln_lb (st_ln (S.set k (w_lb (st_ln S k) v)) j) = if j = k then v else ln_lb (st_ln S j) := by
  rw [st_ln_set hk]
  split
  · rfl
  · rfl
theorem st_cl_lb (S : Ls) : ∀ i : Nat, i ≤ S.length → ∀ j, j < i → ln_lb (st_ln (st_clTo S i) j) = -1 := by
  intro i
  induction i with
  | zero => intro _ j hj; exact absurd hj (Nat.not_lt_zero j)
  | succ i ih =>
    intro hi j hj
    rw [st_clTo, ln_lb_set (by rw [st_clTo_len]; omega)]
    split
    · rfl
    · exact ih (by omega) j (by omega)
theorem st_la_byLv {S : Ls} {gap : Int} (h : LsOK S gap) {i : Nat} (hi : i < S.length) : st_byLv (st_laTo S gap i) (i : Int) = (((st_ord S).getD i 0 : Nat) : Int) ∧ (st_ord S).getD i 0 < S.length := by
  have h1 := h.laTo i (by omega)
  have hll := st_laTo_len S gap i
  have hb := st_byLv_ord h1.1 (p := i) (by omega)
  have e : st_ord (st_laTo S gap i) = st_ord S := by
    unfold st_ord
    rw [st_key_eq (st_la_lv h i (by omega)), hll]
  rw [e, hll] at hb
  exact hb
/-- who isn't reached has no label yet -/
theorem st_la_lb {S : Ls} {gap : Int} (h : LsOK S gap) : ∀ i : Nat, i ≤ S.length → ∀ j, j < S.length → (∀ q, q < i → (st_ord S).getD q 0 ≠ j) → ln_lb (st_ln (st_laTo S gap i) j) = -1 := by
  intro i
  induction i with
  | zero => intro _ j hj _; exact st_cl_lb S _ (Nat.le_refl _) j hj
  | succ i ih =>
    intro hi j hj hq
    have hll := st_laTo_len S gap i
    have hb := st_la_byLv h (i := i) (by omega)
    rw [st_laTo, hb.1, Int.toNat_natCast, ln_lb_set (by have := hb.2; omega), if_neg (fun e => hq i (by omega) e.symm)]
    exact ih (by omega) j hj (fun q hq2 => hq q (by omega))
theorem st_la_cur {S : Ls} {gap : Int} (h : LsOK S gap) {i : Nat} (hi : i < S.length) : ln_lb (st_ln (st_laTo S gap i) ((st_ord S).getD i 0)) = -1 := by
  refine st_la_lb h i (by omega) _ (st_la_byLv h hi).2 (fun q hq e => ?_)
  have ho : i < (st_ord S).length := by rw [st_ord_len]; exact hi
  have hq2 : q < (st_ord S).length := by omega
  rw [List.getD_eq_getElem?_getD, List.getD_eq_getElem?_getD, List.getElem?_eq_getElem ho, List.getElem?_eq_getElem hq2] at e
  have h1 := (List.pairwise_iff_getElem.mp (st_ord_nodup S)) q i hq2 ho hq
  exact h1 e
theorem st_labTo_set {S : Ls} {o : Nat} (ho : o < S.length) (v : Int) (hv : ln_lb (st_ln S o) = -1) : ∀ i : Nat, st_labTo (S.set o (w_lb (st_ln S o) v)) i = st_labTo S i + (if o < i ∧ v ≠ -1 then 1 else 0) := by
  intro i
  induction i with
  | zero => simp [st_labTo]
  | succ i ih =>
    rw [st_labTo, st_labTo, ih, ln_lb_set ho]
    by_cases e : i = o
    · subst e
      rw [if_pos rfl, hv, if_neg (by omega)]
      by_cases z : v = -1
      · simp [z]
      · simp [z]
    · rw [if_neg e]
      have h9 : (o < i + 1 ∧ v ≠ -1) ↔ (o < i ∧ v ≠ -1) := ⟨fun h => ⟨by omega, h.2⟩, fun h => ⟨by omega, h.2⟩⟩
      have e2 : (if o < i + 1 ∧ v ≠ -1 then (1 : Int) else 0) = (if o < i ∧ v ≠ -1 then 1 else 0) := by simp only [h9]
      rw [e2]
      exact Int.add_right_comm _ _ _
theorem st_lab_set {S : Ls} {o : Nat} (ho : o < S.length) (v : Int) (hv : ln_lb (st_ln S o) = -1) : st_lab (S.set o (w_lb (st_ln S o) v)) = st_lab S + (if v ≠ -1 then 1 else 0) := by
  unfold st_lab
  rw [List.length_set, st_labTo_set ho v hv]
  simp [ho]
theorem w_lb_same {L : Ln} (h : ln_lb L = -1) : w_lb L (-1) = L := by
  obtain ⟨a, b, c, d⟩ := L
  have h : b = -1 := h
  subst h
  rfl
theorem set_same {S : Ls} {o : Nat} (ho : o < S.length) : S.set o (st_ln S o) = S := by
  apply List.ext_getElem?
  intro i
  rw [List.getElem?_set]
  split
  · rename_i e
    subst e
    (try rw [if_pos ho])
    unfold st_ln
    rw [List.getD_eq_getElem?_getD, List.getElem?_eq_getElem ho]
    rfl
  · rfl
theorem la_same {S : Ls} {o : Nat} (ho : o < S.length) (hv : ln_lb (st_ln S o) = -1) : S.set o (w_lb (st_ln S o) (-1)) = S := by rw [w_lb_same hv, set_same ho]
theorem kState.ownlt {D : kG} {H : Heap} {st la ea : Nat} {gap : Int} {S : Ls} {F : Fts} (h : kState D H st la ea gap S F) (hx : ¬ kBase D ≤ D.2.2.2 2) {q : Nat} (hq : kOwn D st la ea F S.length q) : q < H.size := by
  obtain ⟨⟨h1, mc, h2⟩, h3, h4, h5⟩ := h
  rcases hq with e | e | ⟨e, e2⟩ | ⟨k, hk, e⟩
  · rw [e]; exact h1.lt
  · rw [e]; exact h2.lt
  · rw [e]; exact h3.lt e2 (by omega)
  · have := (h4 k hk).lt
    rcases e with e | e | e <;> rw [e]
    · exact this.1
    · exact this.2.1
    · exact this.2.2
theorem st_labTo_cl (S : Ls) : ∀ i : Nat, i ≤ S.length → st_labTo (st_clTo S S.length) i = 0 := by
  intro i
  induction i with
  | zero => intro _; rfl
  | succ i ih => intro hi; rw [st_labTo, ih (by omega), st_cl_lb S _ (Nat.le_refl _) i (by omega)]; rfl
theorem st_lab_cl (S : Ls) : st_lab (st_clTo S S.length) = 0 := by
  unfold st_lab
  rw [st_clTo_len]
  exact st_labTo_cl S _ (Nat.le_refl _)
set_option maxHeartbeats 4000000 in
set_option maxRecDepth 100000 in
theorem m_J33_next (l : Launch) (D : kG) (H : Heap) (it : Nat) (lr : Option Nat) (mp : Nat) (ro : Option Nat) (sz : Nat) (mc : Int) (ks : Option Nat) (M : List Nat) (kf : Nat → Nat) (vf : Nat → Nat) (lf : Nat → Option Nat) (rt : Nat → Option Nat) (pr : Nat → Option Nat) (co : Nat → Bool) (t : TT) (a : Nat) (pre : List Nat) (post : List Nat) (hO_it : kO D H it 18 [.ref a, va_rf (lr), .int (kI (mc)), .ref mp]) (hO_mp : kO D H mp 15 [.null, .null, .null, va_rf (ro), .int (kI ((sz : Nat) : Int)), .int (kI (mc)), .null, va_rf (ks), .null]) (hP_kTN_M : kTN D H M kf vf lf rt pr co) (hZ : ZI lf rt pr ro [] t M) (hsp : tio t = pre ++ a :: post) (hmc : 0 ≤ mc ∧ mc ≤ 1000) (bs_it : kBase D ≤ it) : Met l yJ33_next (ws_ yJ33_next cJ33_next 1 (some (.object "java/lang/Object"))) ({ frames := 2, cells := 0, slots := 0, locals := 43 } : Room) (kPre D H [.ref it]) (kQr (fun (r : Nat) H' => (r = kf a) ∧ (kO D H' it 18 [va_rf (post.head?), .ref a, .int (kI (mc)), .ref mp])) (fun q : Nat => q = it)) (0) (0) ((fun q : Nat => q = it)) := by
  refine Met.ofW (cc := cJ33_next) (maxL := 1) (ret := (some (.object "java/lang/Object"))) (by decide) rfl ?_
  intro p e s m args below meth c s₁ B hml hv
  obtain ⟨rfl, hH, hK⟩ := hv
  subst hH
  have hx := B.exec
  have hb := B.bytes
  have hr := B.returns
  have hts := atoms_spec (ws := ws_ yJ33_next cJ33_next 1 (some (.object "java/lang/Object"))) B.pre
  have hts : ∀ w ∈ lw_all, w.before _ s = true := fun w h => hts w (List.mem_cons_of_mem _ h)
  have hown : s.vm.findClass RJ33 = some m.cls := findClass_of_methodNamed B.named
  have hlk := B.notSynchronized
  have hS : va_S (fun q : Nat => q = it) s.heap s.heap [] := va_S.rf
  have hB : ∀ q, (fun q : Nat => q = it) q → kBase D ≤ q := fun q h => by (try dsimp only at h); (try simp only [kNW] at h); have hks := hK.size; omega
  have hl := lv_entry ([.ref it]) (n := 1) (Nat.le_of_ble_eq_true rfl)
  rw [lg_entry_eq]
  generalize (lg_sl ([.ref it]) ++ List.replicate (1 - (lg_sl ([.ref it])).length) Slot.unset).toArray = ls at hl ⊢
  have hl : lv_has ls 1 [(0, .ref it)] := hl
  have hd9 := hK.dis
  have haM : a ∈ M := (hZ.2.2.2.2 a).mpr (by rw [show tpl [] t = t from rfl, hsp]; simp)
  refine lv_aload_n hx hb dJ33_next_0 rfl (lv_at hl 0 rfl) ?_
  refine kx_cr (va_runU (As := []) (rest := []) ⟨hx, hb, hml, hown, hts⟩ (m_J32_nextEntry l D s.heap it lr mp ro sz mc ks M kf vf lf rt pr co t a pre post hO_it hO_mp hP_kTN_M hZ hsp hmc bs_it) (va_cwA (C := RJ33) (owner := "java/util/TreeMap$PrivateEntryIterator") (x := ({ cls := "java/util/TreeMap$KeyIterator", name := "nextEntry", desc := "()Ljava/util/TreeMap$Entry;" } : Jvm.MethodName)) 0 hts (lw_U q991 q992 q994 q995 q122 q996) rfl rfl rfl (hK.w q993 rfl) (by decide +kernel) ⟨Nat.le_of_ble_eq_true rfl, Nat.le_of_ble_eq_true rfl⟩) (kx_pv hK hS hB (kx_rc hK hO_it (C := RJ33) (T := TJ33) (N := 4) rfl)) rfl rfl hl.1 rfl (lv_room (Nat.le_of_ble_eq_true rfl)) dJ33_next_1 ⟨by first | exact Nat.le_of_ble_eq_true rfl | omega | (show _ ≤ _; omega) | (dsimp only [headSpec]; omega), by first | exact Nat.le_of_ble_eq_true rfl | omega | (show _ ≤ _; omega) | (dsimp only [headSpec]; omega)⟩) hS (fun q _ h => by (try dsimp only at h); (try dsimp only); (try simp only [kNW] at h); (try simp only [kNW]); omega) (fun q h => by (try dsimp only at h); (try dsimp only); (try simp only [kNW] at h); (try simp only [kNW]); omega) (fun z_6 H_4 locs_1 hz_3 hF_5 hS_2 => ?_)
  have hzf_7 := hF_5.1
  refine W.widen (k := 0) (n := 0) (Nat.le_of_ble_eq_true rfl) (Nat.le_of_ble_eq_true rfl) ?_
  obtain ⟨hv_8, ho_9⟩ := hz_3
  subst z_6
  have h_10 := hP_kTN_M.fr hF_5 (fun b hb h => kO_ne hd9 (hP_kTN_M b hb).2 hO_it (by decide) (by decide) (by decide) h)
  obtain ⟨hBN_12, hN_11⟩ := h_10 a (haM)
  refine kx_get (v := .ref (kf a)) (C := RJ29) (T := TJ29) (N := 6) hx hb hts in_J29 hown hK hN_11 rfl 0 (by decide) q849 (fun _ h9 => h9) rfl dJ33_next_4 ?_
  exact kx_aret (z := kf a) hx hb hr (by first | exact Or.inl ⟨_, rfl⟩ | exact Or.inr ⟨_, rfl⟩) hlk (⟨by rfl, ho_9⟩) hS_2 dJ33_next_7

set_option maxHeartbeats 4000000 in
set_option maxRecDepth 100000 in
theorem m_X2_byLevels (l : Launch) (D : kG) (H : Heap) (st : Nat) (la : Nat) (mc : Int) (ea : Nat) (F : Fts) (S : Ls) (gap : Int) (b0 : Nat) (hO_st : kO D H st 1 [.ref la, .int (kI (gap))]) (hO_la : kO D H la 9 [.int (kI (mc)), .ref ea, .int (kI ((S.length : Nat) : Int))]) (hP_kLs_ea : kLs D H ea S.length F) (hP_kLn_F : kLn D H F S) (hok : LsOK S gap) (hb0 : b0 = H.size) : Met l yX2_byLevels (ws_ yX2_byLevels cX2_byLevels 3 (some (.object "java/util/TreeMap"))) ({ frames := 7, cells := 17, slots := 65, locals := 158 } : Room) (kPre D H [.ref st]) (kQr (fun (r : Nat) H' => ∃ (E : List (Nat × Int)), (kTM D H' r b0 E) ∧ (E.map Prod.snd = st_keys S) ∧ (H.size ≤ r)) (kNW H)) (17) (65) ((kNW H)) := by
  refine Met.ofW (cc := cX2_byLevels) (maxL := 3) (ret := (some (.object "java/util/TreeMap"))) (by decide) rfl ?_
  intro p e s m args below meth c s₁ B hml hv
  obtain ⟨rfl, hH, hK⟩ := hv
  subst hH
  have hx := B.exec
  have hb := B.bytes
  have hr := B.returns
  have hts := atoms_spec (ws := ws_ yX2_byLevels cX2_byLevels 3 (some (.object "java/util/TreeMap"))) B.pre
  have hts : ∀ w ∈ lw_all, w.before _ s = true := fun w h => hts w (List.mem_cons_of_mem _ h)
  have hown : s.vm.findClass RX2 = some m.cls := findClass_of_methodNamed B.named
  have hlk := B.notSynchronized
  have hS : va_S (kNW s.heap) s.heap s.heap [] := va_S.rf
  have hB : ∀ q, (kNW s.heap) q → kBase D ≤ q := fun q h => Nat.le_trans hK.size h
  have hl := lv_entry ([.ref st]) (n := 3) (Nat.le_of_ble_eq_true rfl)
  rw [lg_entry_eq]
  generalize (lg_sl ([.ref st]) ++ List.replicate (3 - (lg_sl ([.ref st])).length) Slot.unset).toArray = ls at hl ⊢
  have hl : lv_has ls 3 [(0, .ref st)] := hl
  have hL8 := hok.1
  have hks9 := hK.size
  refine kx_new (ci := 15) (fs := [.null, .null, .null, .null, .int (kI (0)), .int (kI (0)), .null, .null, .null]) (C := RJ28) (T := TJ28) (N := 9) hx hb hts in_J28 hown hK tyJ28 tyJ28_ok q533 q534 q117 hS rfl (fun j hj => by rcases (show j = 0 ∨ j = 1 ∨ j = 2 ∨ j = 3 ∨ j = 4 ∨ j = 5 ∨ j = 6 ∨ j = 7 ∨ j = 8 by omega) with rfl | rfl | rfl | rfl | rfl | rfl | rfl | rfl | rfl <;> rfl) (by first | exact Nat.le_of_ble_eq_true rfl | omega | (show _ ≤ _; omega) | (dsimp only [headSpec]; omega)) (by first | exact Nat.le_of_ble_eq_true rfl | omega | (show _ ≤ _; omega) | (dsimp only [headSpec]; omega)) dX2_byLevels_0 (fun mp H_1 hq_2 hz_3 hO_4 hE_5 hS_6 => ?_)
  have hge_mp : s.heap.size ≤ mp := by rw [hq_2]; exact hS.1
  refine W.widen (k := 1) (n := 9) (Nat.le_of_ble_eq_true rfl) (Nat.le_of_ble_eq_true rfl) ?_
  refine lv_dup hx hb dX2_byLevels_3 rfl ?_
  refine kx_cv (va_runI (As := []) (rest := [.ref mp]) ⟨hx, hb, hml, hown, hts⟩ (m_J28_init l D H_1 mp hO_4 (by first | assumption | omega)) (cwI 0 hts (lw_meth q537) rfl rfl rfl (hts _ q117) (hts _ q535) (hts _ q536) rfl (by decide +kernel) ⟨Nat.le_of_ble_eq_true rfl, Nat.le_of_ble_eq_true rfl⟩) (kx_ps hK hS_6 hB) rfl rfl hl.1 rfl (lv_room (Nat.le_of_ble_eq_true rfl)) dX2_byLevels_4 ⟨by first | exact Nat.le_of_ble_eq_true rfl | omega | (show _ ≤ _; omega) | (dsimp only [headSpec]; omega), by first | exact Nat.le_of_ble_eq_true rfl | omega | (show _ ≤ _; omega) | (dsimp only [headSpec]; omega)⟩) hS_6 (fun q _ h => by (try dsimp only at h); (try dsimp only); (try simp only [kNW] at h); (try simp only [kNW]); omega) (fun q h => by (try dsimp only at h); (try dsimp only); (try simp only [kNW] at h); (try simp only [kNW]); omega) (fun H_10 locs_7 hz_9 hF_11 hS_8 => ?_)
  have hzf_13 := hF_11.1
  refine W.widen (k := 1) (n := 9) (Nat.le_of_ble_eq_true rfl) (Nat.le_of_ble_eq_true rfl) ?_
  have ho_14 := hz_9
  have hTM0 : kTM D H_10 mp b0 [] := kTM.new ho_14 (by omega)
  refine lv_astore_n (lv' := [(1, .ref mp), (0, .ref st)]) hx hb dX2_byLevels_7 rfl hl (by decide) rfl (fun ls hl => ?_)
  refine kx_iconst hx hb dX2_byLevels_8 ?_
  refine lv_istore_n (lv' := [(2, .int (kI (0))), (1, .ref mp), (0, .ref st)]) hx hb dX2_byLevels_9 rfl hl (by decide) rfl (fun ls hl => ?_)
  have lp_10_x_15 : ∀ (n_10 : Nat) (k : Nat) (E : List (Nat × Int)) (H : Heap) (hP_kTM_mp : kTM D H mp b0 E) (hk : k ≤ S.length) (hso : (E.map Prod.snd).Pairwise (fun a b => a < b)) (hmem : ∀ x, x ∈ E.map Prod.snd ↔ ∃ j, j < k ∧ x = st_key S j) (hlenE : E.length = k) (locs : List Loc) (hS : va_S (kNW s.heap) s.heap H locs) (hm_10 : S.length - k < n_10) (ls : Array Slot), lv_has ls 3 [(0, .ref st), (1, .ref mp), (2, .int (kI ((k : Nat) : Int)))] → W p l e (headSpec (ws_ yX2_byLevels cX2_byLevels 3 (some (.object "java/util/TreeMap"))) ({ frames := 7, cells := 17, slots := 65, locals := 158 } : Room)).room s m ([.ref st] : List Value).toArray below meth c H locs (1 + 2 * k) (9 + 7 * k) (MQ below (kQr (fun (r : Nat) H' => ∃ (E : List (Nat × Int)), (kTM D H' r b0 E) ∧ (E.map Prod.snd = st_keys S) ∧ (s.heap.size ≤ r)) (kNW s.heap)) ([.ref st] : List Value).toArray s (17) (65) ((kNW s.heap))) (F0 m 10 ls []) := by
    intro n_10
    induction n_10 with
    | zero => intro k E H hP_kTM_mp hk hso hmem hlenE locs hS hm_10; exact absurd hm_10 (Nat.not_lt_zero _)
    | succ n_10 ih_10 =>
      intro k E H hP_kTM_mp hk hso hmem hlenE locs hS hm_10 ls hl
      refine lv_iload_n hx hb dX2_byLevels_10 rfl (lv_at hl 2 rfl) ?_
      refine lv_aload_n hx hb dX2_byLevels_11 rfl (lv_at hl 0 rfl) ?_
      have h_16 := hO_st.ex (va_S.ex hS)
      refine kx_get (v := .ref la) (C := RX2) (T := TX2) (N := 2) hx hb hts in_X2 hown hK h_16 rfl 0 (by decide) q167 (fun _ h9 => h9) rfl dX2_byLevels_12 ?_
      have h_17 := hO_la.ex (va_S.ex hS)
      refine kx_cFi0 (va_runF (C := RJ2) (As := []) (rest := [.int (kI ((k : Nat) : Int))]) (hK.at (ci := 9) rfl) ⟨hx, hb, hml, hown, hts⟩ (m_J2_size l D H la mc ea S.length h_17 ) (va_cwF (x := ({ cls := "java/util/List", name := "size", desc := "()I" } : Jvm.MethodName)) 0 hts (lw_F q279 q283 q285 q83 q287) rfl rfl rfl (hK.fw (by decide)) (by decide +kernel) ⟨Nat.le_of_ble_eq_true rfl, Nat.le_of_ble_eq_true rfl⟩) (kx_pv hK hS hB (kx_rc hK h_17 (C := RJ2) (T := TJ2) (N := 3) rfl)) rfl rfl hl.1 rfl (lv_room (Nat.le_of_ble_eq_true rfl)) dX2_byLevels_15 ⟨by first | exact Nat.le_of_ble_eq_true rfl | omega | (show _ ≤ _; omega) | (dsimp only [headSpec]; omega), by first | exact Nat.le_of_ble_eq_true rfl | omega | (show _ ≤ _; omega) | (dsimp only [headSpec]; omega)⟩) hS (fun z_21 locs_18 hz_20 hS_19 => ?_)
      subst z_21
      refine kx_icmp_ge (x := ((k : Nat) : Int)) (y := ((S.length : Nat) : Int)) (tgt := 71) hx hb dX2_byLevels_20 (by decide) (by omega) (by omega) (by omega) (by omega) (fun c_20_22 => ?_) (fun c_20_22 => ?_)
      · -- taken at 20
        refine lv_aload_n hx hb dX2_byLevels_71 rfl (lv_at hl 1 rfl) ?_
        refine W.widen (k := 17) (n := 65) (by omega) (by omega) ?_
        exact kx_aret (z := mp) hx hb hr (by first | exact Or.inl ⟨_, rfl⟩ | exact Or.inr ⟨_, rfl⟩) hlk (⟨E, hP_kTM_mp, by exact by_end hL8 (by omega) hso hmem, by first | assumption | rfl | omega | grind⟩) hS_19 dX2_byLevels_72
      · -- not taken at 20
        refine lv_aload_n hx hb dX2_byLevels_23 rfl (lv_at hl 1 rfl) ?_
        refine kx_bipush hx hb (by decide) dX2_byLevels_24 ?_
        refine lv_aload_n hx hb dX2_byLevels_26 rfl (lv_at hl 0 rfl) ?_
        refine kx_get (v := .ref la) (C := RX2) (T := TX2) (N := 2) hx hb hts in_X2 hown hK h_16 rfl 0 (by decide) q167 (fun _ h9 => h9) rfl dX2_byLevels_27 ?_
        refine lv_iload_n hx hb dX2_byLevels_30 rfl (lv_at hl 2 rfl) ?_
        have h_23 := hP_kLs_ea.ex (va_S.ex hS_19)
        refine kx_cFr0 (va_runF (C := RJ2) (As := [.int (kI ((k : Nat) : Int))]) (rest := [.int (kI (8)), .ref mp]) (hK.at (ci := 9) rfl) ⟨hx, hb, hml, hown, hts⟩ (m_get l D H la mc ea S.length F k h_17 h_23 (by first | assumption | omega)) (va_cwF (x := ({ cls := "java/util/List", name := "get", desc := "(I)Ljava/lang/Object;" } : Jvm.MethodName)) 1 hts (lw_F q289 q292 q294 q83 q296) rfl rfl rfl (hK.fw (by decide)) (by decide +kernel) ⟨Nat.le_of_ble_eq_true rfl, Nat.le_of_ble_eq_true rfl⟩) (kx_pv hK hS_19 hB (kx_rc hK h_17 (C := RJ2) (T := TJ2) (N := 3) rfl)) rfl rfl hl.1 rfl (lv_room (Nat.le_of_ble_eq_true rfl)) dX2_byLevels_31 ⟨by first | exact Nat.le_of_ble_eq_true rfl | omega | (show _ ≤ _; omega) | (dsimp only [headSpec]; omega), by first | exact Nat.le_of_ble_eq_true rfl | omega | (show _ ≤ _; omega) | (dsimp only [headSpec]; omega)⟩) hS_19 (fun z_27 locs_24 hz_26 hS_25 => ?_)
        subst z_27
        have h_28 := hP_kLn_F.ex (va_S.ex hS_25)
        obtain ⟨ea_29, gp_29, gs_29, ho_29, hp_29, hs_29, he_29, hm_29⟩ := (h_28 k (by omega))
        refine kx_castS hx hb hts hown q307 hK ho_29 rfl dX2_byLevels_36 ?_
        refine kx_get (v := .int (kI (ln_lv (st_ln S k)))) (C := RX4) (T := TX4) (N := 6) hx hb hts in_X4 hown hK ho_29 rfl 0 (by decide) q334 (fun _ h9 => h9) rfl dX2_byLevels_39 ?_
        refine kx_imul hx hb dX2_byLevels_42 ?_
        refine lv_iload_n hx hb dX2_byLevels_43 rfl (lv_at hl 2 rfl) ?_
        refine kx_iadd hx hb dX2_byLevels_44 ?_
        have hkr9 := st_key_rng hok (show k < S.length by omega)
        refine kx_eqi (st_key S k) (rfl) ?_
        refine kx_cr (va_runS (As := [.int (kI (st_key S k))]) (rest := [.ref mp]) ⟨hx, hb, hml, hown, hts⟩ (m_J23_valueOf l D H ((st_key S k))  ((by omega))) (va_cwS 1 hts (lw_S q567 q568 q111 q569) rfl rfl rfl (by decide +kernel) ⟨Nat.le_of_ble_eq_true rfl, Nat.le_of_ble_eq_true rfl⟩) (kx_ps hK hS_25 hB) rfl rfl hl.1 rfl (lv_room (Nat.le_of_ble_eq_true rfl)) dX2_byLevels_45 ⟨by first | exact Nat.le_of_ble_eq_true rfl | omega | (show _ ≤ _; omega) | (dsimp only [headSpec]; omega), by first | exact Nat.le_of_ble_eq_true rfl | omega | (show _ ≤ _; omega) | (dsimp only [headSpec]; omega)⟩) hS_25 (fun q _ h => Nat.le_trans hS_25.1 h) (fun q h => Nat.le_trans hS_25.1 h) (fun kz H_33 locs_30 hz_32 hF_34 hS_31 => ?_)
        have hzf_35 := hF_34.1
        have hF_34 := hF_34.nw
        obtain ⟨ho_36, hnew_37⟩ := hz_32
        refine lv_aload_n hx hb dX2_byLevels_48 rfl (lv_at hl 0 rfl) ?_
        have h_38 := hO_st.ex (va_S.ex hS_31)
        refine kx_get (v := .ref la) (C := RX2) (T := TX2) (N := 2) hx hb hts in_X2 hown hK h_38 rfl 0 (by decide) q167 (fun _ h9 => h9) rfl dX2_byLevels_49 ?_
        refine lv_iload_n hx hb dX2_byLevels_52 rfl (lv_at hl 2 rfl) ?_
        have h_39 := hO_la.ex (va_S.ex hS_31)
        have h_40 := hP_kLs_ea.ex (va_S.ex hS_31)
        refine kx_cFr0 (va_runF (C := RJ2) (As := [.int (kI ((k : Nat) : Int))]) (rest := [.ref kz, .ref mp]) (hK.at (ci := 9) rfl) ⟨hx, hb, hml, hown, hts⟩ (m_get l D H_33 la mc ea S.length F k h_39 h_40 (by first | assumption | omega)) (va_cwF (x := ({ cls := "java/util/List", name := "get", desc := "(I)Ljava/lang/Object;" } : Jvm.MethodName)) 1 hts (lw_F q289 q292 q294 q83 q296) rfl rfl rfl (hK.fw (by decide)) (by decide +kernel) ⟨Nat.le_of_ble_eq_true rfl, Nat.le_of_ble_eq_true rfl⟩) (kx_pv hK hS_31 hB (kx_rc hK h_39 (C := RJ2) (T := TJ2) (N := 3) rfl)) rfl rfl hl.1 rfl (lv_room (Nat.le_of_ble_eq_true rfl)) dX2_byLevels_53 ⟨by first | exact Nat.le_of_ble_eq_true rfl | omega | (show _ ≤ _; omega) | (dsimp only [headSpec]; omega), by first | exact Nat.le_of_ble_eq_true rfl | omega | (show _ ≤ _; omega) | (dsimp only [headSpec]; omega)⟩) hS_31 (fun z_44 locs_41 hz_43 hS_42 => ?_)
        subst z_44
        have h_45 := hP_kLn_F.ex (va_S.ex hS_42)
        obtain ⟨ea_46, gp_46, gs_46, ho_46, hp_46, hs_46, he_46, hm_46⟩ := (h_45 k (by omega))
        refine kx_castS hx hb hts hown q307 hK ho_46 rfl dX2_byLevels_58 ?_
        have h_47 := hP_kTM_mp.ex hF_34
        obtain ⟨rox, kfx, vfx, lfx, rtx, prx, cox, tx, kvx, hTOx, -⟩ := id h_47
        refine kx_cq (va_runV (As := [.ref kz, .ref (fA F k)]) (rest := []) ⟨hx, hb, hml, hown, hts⟩ (m_J28_put l D H_33 mp b0 E kz ((fA F k)) ((st_key S k)) h_47 ho_36 hkr9 ((by_nk hL8 (by omega) hmem)) hso ((by omega)) ((by have h9 := hS.1; omega)) ((by omega))) (cwV 2 hts (lw_V q587 q588 q589 q117 q590) rfl rfl rfl (by decide +kernel) ⟨Nat.le_of_ble_eq_true rfl, Nat.le_of_ble_eq_true rfl⟩) (kx_pv hK hS_42 hB (kx_rc hK hTOx (C := RJ28) (T := TJ28) (N := 9) rfl)) rfl rfl hl.1 rfl (lv_room (Nat.le_of_ble_eq_true rfl)) dX2_byLevels_61 ⟨by first | exact Nat.le_of_ble_eq_true rfl | omega | (show _ ≤ _; omega) | (dsimp only [headSpec]; omega), by first | exact Nat.le_of_ble_eq_true rfl | omega | (show _ ≤ _; omega) | (dsimp only [headSpec]; omega)⟩) hS_42 (fun q _ h => by (try dsimp only at h); (try dsimp only); (try simp only [kNW] at h); (try simp only [kNW]); omega) (fun q h => by (try dsimp only at h); (try dsimp only); (try simp only [kNW] at h); (try simp only [kNW]); omega) (fun z_53 H_51 locs_48 hz_50 hF_52 hS_49 => ?_)
        have hzf_54 := hF_52.1
        obtain ⟨Ez, hv_56, ho_57, hEp9⟩ := hz_50
        subst z_53
        obtain ⟨hso2, hmem2, hlen2⟩ := by_put hso hEp9
        refine lv_pop hx hb dX2_byLevels_64 rfl ?_
        refine lv_iinc (v := kI (((k + 1 : Nat) : Int))) (lv' := [(2, .int (kI ((k + 1 : Nat) : Int))), (0, .ref st), (1, .ref mp)]) hx hb dX2_byLevels_65 hl (k := 2) rfl (kI_incN _ _) (by decide) rfl (fun ls hl => ?_)
        refine lv_goto (tgt := 10) hx hb dX2_byLevels_68 (by decide) ?_
        refine W.widen (k := 1 + 2 * (k + 1)) (n := 9 + 7 * (k + 1)) (by omega) (by omega) ?_
        exact ih_10  (k + 1) Ez H_51 ho_57 (by first | assumption | omega | (simp_all; done) | grind) (hso2) (fun x => by rw [hmem2 x, hmem x]; constructor; (rintro (⟨j, hj, e⟩ | e); exact ⟨j, by omega, e⟩; exact ⟨k, by omega, e⟩); (rintro ⟨j, hj, e⟩; by_cases e2 : j = k; (subst e2; exact Or.inr e); exact Or.inl ⟨j, by omega, e⟩)) (by omega) _ hS_49 (by omega) ls (lv_sub hl [1, 2, 0] rfl)
  refine W.widen (k := 1 + 2 * 0) (n := 9 + 7 * 0) (by omega) (by omega) ?_
  exact lp_10_x_15 (S.length - 0 + 1) 0 (([] : List (Nat × Int))) H_10 hTM0 (by first | assumption | omega | (simp_all; done) | grind) (List.Pairwise.nil) (fun x => ⟨fun h => (by cases h), fun ⟨j, hj, _⟩ => absurd hj (Nat.not_lt_zero j)⟩) (rfl) _ hS_8 (Nat.lt_succ_self _) ls (lv_sub hl [2, 1, 0] rfl)

set_option maxHeartbeats 4000000 in
set_option maxRecDepth 100000 in
theorem m_X2_lineByLevel (l : Launch) (D : kG) (H : Heap) (st : Nat) (la : Nat) (mc : Int) (ea : Nat) (F : Fts) (S : Ls) (gap : Int) (x : Int) (hO_st : kO D H st 1 [.ref la, .int (kI (gap))]) (hO_la : kO D H la 9 [.int (kI (mc)), .ref ea, .int (kI ((S.length : Nat) : Int))]) (hP_kLs_ea : kLs D H ea S.length F) (hP_kLn_F : kLn D H F S) (hok : LsOK S gap) (hx : 0 ≤ x ∧ x < (S.length : Int)) : Met l yX2_lineByLevel (ws_ yX2_lineByLevel cX2_lineByLevel 5 (some .int)) ({ frames := 8, cells := 19, slots := 70, locals := 180 } : Room) (kPre D H [.ref st, .int (kI (x))]) (kQi (fun (r : Int) H' => (r = st_byLv S x) ∧ (True)) (kNW H)) (19) (70) ((kNW H)) := by
  refine Met.ofW (cc := cX2_lineByLevel) (maxL := 5) (ret := (some .int)) (by decide) rfl ?_
  intro p e s m args below meth c s₁ B hml hv
  obtain ⟨rfl, hH, hK⟩ := hv
  subst hH
  have hx := B.exec
  have hb := B.bytes
  have hr := B.returns
  have hts := atoms_spec (ws := ws_ yX2_lineByLevel cX2_lineByLevel 5 (some .int)) B.pre
  have hts : ∀ w ∈ lw_all, w.before _ s = true := fun w h => hts w (List.mem_cons_of_mem _ h)
  have hown : s.vm.findClass RX2 = some m.cls := findClass_of_methodNamed B.named
  have hlk := B.notSynchronized
  have hS : va_S (kNW s.heap) s.heap s.heap [] := va_S.rf
  have hB : ∀ q, (kNW s.heap) q → kBase D ≤ q := fun q h => Nat.le_trans hK.size h
  have hl := lv_entry ([.ref st, .int (kI (x))]) (n := 5) (Nat.le_of_ble_eq_true rfl)
  rw [lg_entry_eq]
  generalize (lg_sl ([.ref st, .int (kI (x))]) ++ List.replicate (5 - (lg_sl ([.ref st, .int (kI (x))])).length) Slot.unset).toArray = ls at hl ⊢
  have hl : lv_has ls 5 [(0, .ref st), (1, .int (kI (x)))] := hl
  have hL8 := hok.1
  have hks9 := hK.size
  have hd9 := hK.dis
  refine lv_iload_n hx hb dX2_lineByLevel_0 rfl (lv_at hl 1 rfl) ?_
  refine lv_istore_n (lv' := [(2, .int (kI (x))), (0, .ref st), (1, .int (kI (x)))]) hx hb dX2_lineByLevel_1 rfl hl (by decide) rfl (fun ls hl => ?_)
  refine lv_aload_n hx hb dX2_lineByLevel_2 rfl (lv_at hl 1 rfl) ?_
  refine kx_cr (va_runV (As := []) (rest := []) ⟨hx, hb, hml, hown, hts⟩ (m_X2_byLevels l D s.heap st la mc ea F S gap s.heap.size hO_st hO_la hP_kLs_ea hP_kLn_F (by first | assumption | omega) rfl) (cwV 0 hts (lw_V q529 q531 qs7 q80 q532) rfl rfl rfl (by decide +kernel) ⟨Nat.le_of_ble_eq_true rfl, Nat.le_of_ble_eq_true rfl⟩) (kx_pv hK hS hB (kx_rc hK hO_st (C := RX2) (T := TX2) (N := 2) rfl)) rfl rfl hl.1 rfl (lv_room (Nat.le_of_ble_eq_true rfl)) dX2_lineByLevel_3 ⟨by first | exact Nat.le_of_ble_eq_true rfl | omega | (show _ ≤ _; omega) | (dsimp only [headSpec]; omega), by first | exact Nat.le_of_ble_eq_true rfl | omega | (show _ ≤ _; omega) | (dsimp only [headSpec]; omega)⟩) hS (fun q _ h => Nat.le_trans hS.1 h) (fun q h => Nat.le_trans hS.1 h) (fun mp H_4 locs_1 hz_3 hF_5 hS_2 => ?_)
  have hzf_6 := hF_5.1
  have hF_5 := hF_5.nw
  refine W.widen (k := 17) (n := 65) (Nat.le_of_ble_eq_true rfl) (Nat.le_of_ble_eq_true rfl) ?_
  obtain ⟨E, ho_8, hE9, hnm9⟩ := hz_3
  obtain ⟨ro, kf, vf, lf, rt, pr, co, t, kv, hTO, hTN, hBX, hZ, hio, hbl, hkv, hbm, hbE⟩ := ho_8
  have hmpM9 : mp ∉ (E.map Prod.fst) := fun z => kO_ne hd9 hTO (hTN _ z).2 (by decide) (by decide) (by decide) rfl
  have hbm9 : ∀ a, a ∈ (E.map Prod.fst) → kf a ≠ mp := fun a ha => kO_ne hd9 (hBX a ha).1 hTO (by decide) (by decide) (by decide)
  refine kx_cr (va_runV (As := []) (rest := []) ⟨hx, hb, hml, hown, hts⟩ (m_J28_keySet l D H_4 mp ro E.length (((E.length : Nat) : Int)) hTO (by first | assumption | omega)) (cwV 0 hts (lw_V q906 q907 q908 q117 q909) rfl rfl rfl (by decide +kernel) ⟨Nat.le_of_ble_eq_true rfl, Nat.le_of_ble_eq_true rfl⟩) (kx_pv hK hS_2 hB (kx_rc hK hTO (C := RJ28) (T := TJ28) (N := 9) rfl)) rfl rfl hl.1 rfl (lv_room (Nat.le_of_ble_eq_true rfl)) dX2_lineByLevel_6 ⟨by first | exact Nat.le_of_ble_eq_true rfl | omega | (show _ ≤ _; omega) | (dsimp only [headSpec]; omega), by first | exact Nat.le_of_ble_eq_true rfl | omega | (show _ ≤ _; omega) | (dsimp only [headSpec]; omega)⟩) hS_2 (fun q _ h => by (try dsimp only at h); (try dsimp only); (try simp only [kNW] at h); (try simp only [kNW]); omega) (fun q h => by (try dsimp only at h); (try dsimp only); (try simp only [kNW] at h); (try simp only [kNW]); omega) (fun kz H_12 locs_9 hz_11 hF_13 hS_10 => ?_)
  have hzf_14 := hF_13.1
  refine W.widen (k := 18) (n := 66) (Nat.le_of_ble_eq_true rfl) (Nat.le_of_ble_eq_true rfl) ?_
  obtain ⟨ho_15, ho_16, hnk9⟩ := hz_11
  have h_17 := hTN.fr hF_13 (fun a ha h => by have h9 := (hTN a ha).2.lt; rcases h with h | h; (exact hmpM9 (by rw [← h]; exact ha)); omega)
  refine kx_cFr (va_runF (C := RJ31) (As := []) (rest := []) (hK.at (ci := 17) rfl) ⟨hx, hb, hml, hown, hts⟩ (m_J31_iterator l D H_12 kz mp ro E.length (((((E.length : Nat) : Int)))) (some kz) ((E.map Prod.fst)) kf vf lf rt pr co t ho_15 ho_16 h_17 hZ) (va_cwF (x := ({ cls := "java/util/Set", name := "iterator", desc := "()Ljava/util/Iterator;" } : Jvm.MethodName)) 0 hts (lw_F q928 q932 q934 q121 q936) rfl rfl rfl (hK.fw (by decide)) (by decide +kernel) ⟨Nat.le_of_ble_eq_true rfl, Nat.le_of_ble_eq_true rfl⟩) (kx_pv hK hS_10 hB (kx_rc hK ho_15 (C := RJ31) (T := TJ31) (N := 1) rfl)) rfl rfl hl.1 rfl (lv_room (Nat.le_of_ble_eq_true rfl)) dX2_lineByLevel_9 ⟨by first | exact Nat.le_of_ble_eq_true rfl | omega | (show _ ≤ _; omega) | (dsimp only [headSpec]; omega), by first | exact Nat.le_of_ble_eq_true rfl | omega | (show _ ≤ _; omega) | (dsimp only [headSpec]; omega)⟩) hS_10 (fun q _ h => Nat.le_trans hS_10.1 h) (fun q h => Nat.le_trans hS_10.1 h) (fun it H_21 locs_18 hz_20 hF_22 hS_19 => ?_)
  have hzf_23 := hF_22.1
  have hF_22 := hF_22.nw
  refine W.widen (k := 19) (n := 70) (Nat.le_of_ble_eq_true rfl) (Nat.le_of_ble_eq_true rfl) ?_
  obtain ⟨ho_24, hni9⟩ := hz_20
  have h_25 := ho_16.ex hF_22
  have h_26 := h_17.ex hF_22
  have h_27 := hBX.fr hF_13 (fun a ha h => by have h9 := (hBX a ha).1.lt; rcases h with h | h; (exact hbm9 a ha h); omega)
  have h_28 := h_27.ex hF_22
  have hlE9 : E.length ≤ 8 := by have h8 := congrArg List.length hE9; rw [List.length_map, st_keys_len] at h8; omega
  have hIT0 : kIt D H_21 it s.heap.size (E.map Prod.snd) := ⟨mp, E, [], E, ro, some kz, none, E.length, ((E.length : Nat) : Int), kf, vf, lf, rt, pr, co, t, kv, (by rw [← hio]; exact ho_24), h_25, h_26, h_28, hZ, hio, hkv, rfl, rfl, (by omega), hbm, (by omega), hbE⟩
  refine lv_astore_n (lv' := [(3, .ref it), (2, .int (kI (x))), (0, .ref st), (1, .int (kI (x)))]) hx hb dX2_lineByLevel_14 rfl hl (by decide) rfl (fun ls hl => ?_)
  have lp_15_x_29 : ∀ (n_15 : Nat) (d : Nat) (R : List Int) (w : Int) (H : Heap) (hP_kIt_it : kIt D H it s.heap.size R) (hR : R = (st_keys S).drop d) (hw : w = x - (d : Int)) (hd : (d : Int) ≤ x) (locs : List Loc) (hS : va_S (kNW s.heap) s.heap H locs) (hm_15 : R.length < n_15) (ls : Array Slot), lv_has ls 5 [(0, .ref st), (1, .int (kI (x))), (2, .int (kI (w))), (3, .ref it)] → W p l e (headSpec (ws_ yX2_lineByLevel cX2_lineByLevel 5 (some .int)) ({ frames := 8, cells := 19, slots := 70, locals := 180 } : Room)).room s m ([.ref st, .int (kI (x))] : List Value).toArray below meth c H locs (19) (70) (MQ below (kQi (fun (r : Int) H' => (r = st_byLv S x) ∧ (True)) (kNW s.heap)) ([.ref st, .int (kI (x))] : List Value).toArray s (19) (70) ((kNW s.heap))) (F0 m 15 ls []) := by
    intro n_15
    induction n_15 with
    | zero => intro d R w H hP_kIt_it hR hw hd locs hS hm_15; exact absurd hm_15 (Nat.not_lt_zero _)
    | succ n_15 ih_15 =>
      intro d R w H hP_kIt_it hR hw hd locs hS hm_15 ls hl
      obtain ⟨mp9, E9, P9, Q9, ro9, ks9, lr9, sz9, mc9, kf9, vf9, lf9, rt9, pr9, co9, t9, kv9, hI1, hI2, hI3, hI4, hIZ, hIio, hIkv, hIE, hIR, hIb1, hIb2, hImc, hIbE⟩ := id hP_kIt_it
      rcases Q9 with _ | ⟨⟨a9, K9⟩, Q9⟩
      · -- nothing left
        have hI1n : kO D H it 18 [.null, va_rf lr9, .int (kI mc9), .ref mp9] := hI1
        have hRn9 : (st_keys S).drop d = [] := hR.symm.trans hIR
        refine lv_aload_n hx hb dX2_lineByLevel_15 rfl (lv_at hl 3 rfl) ?_
        refine kx_cFb0 (va_runF (C := RJ33) (As := []) (rest := []) (hK.at (ci := 18) rfl) ⟨hx, hb, hml, hown, hts⟩ (m_J32_hasNext l D H it none lr9 mp9 mc9 hI1n ) (va_cwF (x := ({ cls := "java/util/Iterator", name := "hasNext", desc := "()Z" } : Jvm.MethodName)) 0 hts (lw_F q973 q977 q979 q122 q981) rfl rfl rfl (hK.fw (by decide)) (by decide +kernel) ⟨Nat.le_of_ble_eq_true rfl, Nat.le_of_ble_eq_true rfl⟩) (kx_pv hK hS hB (kx_rc hK hI1n (C := RJ33) (T := TJ33) (N := 4) rfl)) rfl rfl hl.1 rfl (lv_room (Nat.le_of_ble_eq_true rfl)) dX2_lineByLevel_16 ⟨by first | exact Nat.le_of_ble_eq_true rfl | omega | (show _ ≤ _; omega) | (dsimp only [headSpec]; omega), by first | exact Nat.le_of_ble_eq_true rfl | omega | (show _ ≤ _; omega) | (dsimp only [headSpec]; omega)⟩) hS (fun z_33 locs_30 hz_32 hS_31 => ?_)
        subst z_33
        refine kx_ifz (tgt := 54) hx hb dX2_lineByLevel_21 (by decide) (fun c_21_34 => ?_) (fun c_21_34 => ?_)
        · -- taken at 21
          refine kx_iconst hx hb dX2_lineByLevel_54 ?_
          exact kx_iret (z := (-1)) hx hb hr hlk (⟨by exfalso; have h9 := st_keys_nil hRn9; omega, by first | assumption | rfl | omega | grind⟩) hS_31 dX2_lineByLevel_55
        · -- not taken at 21
          first | exact absurd c_21_34 (by decide) | exact Bool.noConfusion c_21_34 | (simp at c_21_34; done)
      · -- an entry
        have hI1s : kO D H it 18 [.ref a9, va_rf lr9, .int (kI mc9), .ref mp9] := hI1
        have hkh9 := st_keys_head hok (hR.symm.trans hIR)
        have haE9 : a9 ∈ E9.map Prod.fst := List.mem_map.mpr ⟨(a9, K9), by rw [hIE]; simp, rfl⟩
        have hkK9 : kv9 a9 = K9 := hIkv (a9, K9) (by rw [hIE]; simp)
        have hsp9 : tio t9 = P9.map Prod.fst ++ a9 :: Q9.map Prod.fst := by rw [hIio, hIE]; simp
        refine lv_aload_n hx hb dX2_lineByLevel_15 rfl (lv_at hl 3 rfl) ?_
        refine kx_cFb0 (va_runF (C := RJ33) (As := []) (rest := []) (hK.at (ci := 18) rfl) ⟨hx, hb, hml, hown, hts⟩ (m_J32_hasNext l D H it (some a9) lr9 mp9 mc9 hI1s ) (va_cwF (x := ({ cls := "java/util/Iterator", name := "hasNext", desc := "()Z" } : Jvm.MethodName)) 0 hts (lw_F q973 q977 q979 q122 q981) rfl rfl rfl (hK.fw (by decide)) (by decide +kernel) ⟨Nat.le_of_ble_eq_true rfl, Nat.le_of_ble_eq_true rfl⟩) (kx_pv hK hS hB (kx_rc hK hI1s (C := RJ33) (T := TJ33) (N := 4) rfl)) rfl rfl hl.1 rfl (lv_room (Nat.le_of_ble_eq_true rfl)) dX2_lineByLevel_16 ⟨by first | exact Nat.le_of_ble_eq_true rfl | omega | (show _ ≤ _; omega) | (dsimp only [headSpec]; omega), by first | exact Nat.le_of_ble_eq_true rfl | omega | (show _ ≤ _; omega) | (dsimp only [headSpec]; omega)⟩) hS (fun z_38 locs_35 hz_37 hS_36 => ?_)
        subst z_38
        refine kx_ifz (tgt := 54) hx hb dX2_lineByLevel_21 (by decide) (fun c_21_39 => ?_) (fun c_21_39 => ?_)
        · -- taken at 21
          first | exact absurd c_21_39 (by decide) | exact Bool.noConfusion c_21_39 | (simp at c_21_39; done)
        · -- not taken at 21
          refine lv_aload_n hx hb dX2_lineByLevel_24 rfl (lv_at hl 3 rfl) ?_
          refine kx_cFr (va_runF (C := RJ33) (As := []) (rest := []) (hK.at (ci := 18) rfl) ⟨hx, hb, hml, hown, hts⟩ (m_J33_next l D H it lr9 mp9 ro9 sz9 mc9 ks9 ((E9.map Prod.fst)) kf9 vf9 lf9 rt9 pr9 co9 t9 a9 ((P9.map Prod.fst)) ((Q9.map Prod.fst)) hI1s hI2 hI3 hIZ hsp9 hImc ((by omega))) (va_cwF (x := ({ cls := "java/util/Iterator", name := "next", desc := "()Ljava/lang/Object;" } : Jvm.MethodName)) 0 hts (lw_F q983 q986 q988 q123 q990) rfl rfl rfl (hK.fw (by decide)) (by decide +kernel) ⟨Nat.le_of_ble_eq_true rfl, Nat.le_of_ble_eq_true rfl⟩) (kx_pv hK hS_36 hB (kx_rc hK hI1s (C := RJ33) (T := TJ33) (N := 4) rfl)) rfl rfl hl.1 rfl (lv_room (Nat.le_of_ble_eq_true rfl)) dX2_lineByLevel_25 ⟨by first | exact Nat.le_of_ble_eq_true rfl | omega | (show _ ≤ _; omega) | (dsimp only [headSpec]; omega), by first | exact Nat.le_of_ble_eq_true rfl | omega | (show _ ≤ _; omega) | (dsimp only [headSpec]; omega)⟩) hS_36 (fun q _ h => by (try dsimp only at h); (try dsimp only); (try simp only [kNW] at h); (try simp only [kNW]); omega) (fun q h => by (try dsimp only at h); (try dsimp only); (try simp only [kNW] at h); (try simp only [kNW]); omega) (fun z_45 H_43 locs_40 hz_42 hF_44 hS_41 => ?_)
          have hzf_46 := hF_44.1
          refine W.widen (k := 19) (n := 70) (Nat.le_of_ble_eq_true rfl) (Nat.le_of_ble_eq_true rfl) ?_
          obtain ⟨hv_47, ho_48⟩ := hz_42
          subst z_45
          have h_49 := hI2.fr hF_44 (fun h => kO_ne hd9 hI2 hI1s (by decide) (by decide) (by decide) h)
          have h_50 := hI3.fr hF_44 (fun x hx h => kO_ne hd9 (hI3 x hx).2 hI1s (by decide) (by decide) (by decide) h)
          have h_51 := hI4.fr hF_44 (fun x hx h => kO_ne hd9 (hI4 x hx).1 hI1s (by decide) (by decide) (by decide) h)
          have hITn : kIt D H_43 it s.heap.size (Q9.map Prod.snd) := ⟨mp9, E9, P9 ++ [(a9, K9)], Q9, ro9, ks9, some a9, sz9, mc9, kf9, vf9, lf9, rt9, pr9, co9, t9, kv9, ho_48, h_49, h_50, h_51, hIZ, hIio, hIkv, (by rw [hIE]; simp), rfl, hIb1, hIb2, hImc, hIbE⟩
          have hbx9 : kO D H_43 (kf9 a9) 14 [.int (kI K9)] := by have h9 := (h_51 a9 haE9).1; rw [hkK9] at h9; exact h9
          refine kx_castS hx hb hts hown q1000 hK hbx9 rfl dX2_lineByLevel_30 ?_
          refine kx_ci0 (va_runV (As := []) (rest := []) ⟨hx, hb, hml, hown, hts⟩ (m_J23_intValue l D H_43 (kf9 a9) K9 hbx9 ) (cwV 0 hts (lw_V q1001 q1002 q1003 q111 q1004) rfl rfl rfl (by decide +kernel) ⟨Nat.le_of_ble_eq_true rfl, Nat.le_of_ble_eq_true rfl⟩) (kx_pv hK hS_41 hB (kx_rc hK hbx9 (C := RJ23) (T := TJ23) (N := 1) rfl)) rfl rfl hl.1 rfl (lv_room (Nat.le_of_ble_eq_true rfl)) dX2_lineByLevel_33 ⟨by first | exact Nat.le_of_ble_eq_true rfl | omega | (show _ ≤ _; omega) | (dsimp only [headSpec]; omega), by first | exact Nat.le_of_ble_eq_true rfl | omega | (show _ ≤ _; omega) | (dsimp only [headSpec]; omega)⟩) hS_41 (fun z_55 locs_52 hz_54 hS_53 => ?_)
          subst z_55
          refine lv_istore (lv' := [(4, .int (kI (K9))), (0, .ref st), (1, .int (kI (x))), (2, .int (kI (w))), (3, .ref it)]) hx hb dX2_lineByLevel_36 hl (by decide) rfl (fun ls hl => ?_)
          refine lv_iload_n hx hb dX2_lineByLevel_38 rfl (lv_at hl 3 rfl) ?_
          refine kx_if_ne (x := w) (tgt := 48) hx hb dX2_lineByLevel_39 (by decide) (by omega) (by omega) (fun c_39_56 => ?_) (fun c_39_56 => ?_)
          · -- taken at 39
            refine lv_iinc (v := kI ((w + (-1)))) (lv' := [(2, .int (kI ((w + (-1))))), (4, .int (kI (K9))), (0, .ref st), (1, .int (kI (x))), (3, .ref it)]) hx hb dX2_lineByLevel_48 hl (k := 3) rfl (kI_inc _ _) (by decide) rfl (fun ls hl => ?_)
            refine lv_goto (tgt := 15) hx hb dX2_lineByLevel_51 (by decide) ?_
            exact ih_15  ((d + 1)) ((Q9.map Prod.snd)) ((w + (-1))) H_43 hITn (hkh9.2.2.2.symm) (by omega) (by omega) _ hS_53 (by rw [hIR, List.map_cons, List.length_cons] at hm_15; omega) ls (lv_sub hl [2, 3, 0, 4] rfl)
          · -- not taken at 39
            refine lv_iload hx hb dX2_lineByLevel_42 (lv_at hl 0 rfl) ?_
            refine kx_bipush hx hb (by decide) dX2_lineByLevel_44 ?_
            refine kx_irem (x := K9) (y := 8) hx hb (by omega) (by omega) (by omega) (by omega) dX2_lineByLevel_46 ?_
            exact kx_iret (z := (K9 % 8)) hx hb hr hlk (⟨by rw [show x = (d : Int) by omega]; exact hkh9.2.1, by first | assumption | rfl | omega | grind⟩) hS_53 dX2_lineByLevel_47
  exact lp_15_x_29 ((((E.map Prod.snd))).length + 1) 0 ((E.map Prod.snd)) x H_21 hIT0 (by rw [hE9]; rfl) (by omega) (by omega) _ hS_19 (Nat.lt_succ_self _) ls (lv_sub hl [2, 3, 1, 0] rfl)

set_option maxHeartbeats 4000000 in
set_option maxRecDepth 100000 in
theorem m_X2_labelAll (l : Launch) (D : kG) (H : Heap) (st : Nat) (la : Nat) (ea : Nat) (F : Fts) (S : Ls) (gap : Int) (hP_kState_st : kState D H st la ea gap S F) (hok : LsOK S gap) : Met l yX2_labelAll (ws_ yX2_labelAll cX2_labelAll 4 (some .int)) ({ frames := 10, cells := 3011, slots := 8494, locals := 3169 } : Room) (kPre D H [.ref st]) (kQi (fun (r : Int) H' => (r = st_lab (st_la S gap)) ∧ (kState D H' st la ea gap ((st_la S gap)) F)) (fun q : Nat => (∃ k, k < S.length ∧ q = fA F k) ∨ H.size ≤ q)) (3011) (8494) ((fun q : Nat => (∃ k, k < S.length ∧ q = fA F k) ∨ H.size ≤ q)) := by
  refine Met.ofW (cc := cX2_labelAll) (maxL := 4) (ret := (some .int)) (by decide) rfl ?_
  intro p e s m args below meth c s₁ B hml hv
  obtain ⟨rfl, hH, hK⟩ := hv
  subst hH
  have hx := B.exec
  have hb := B.bytes
  have hr := B.returns
  have hts := atoms_spec (ws := ws_ yX2_labelAll cX2_labelAll 4 (some .int)) B.pre
  have hts : ∀ w ∈ lw_all, w.before _ s = true := fun w h => hts w (List.mem_cons_of_mem _ h)
  have hown : s.vm.findClass RX2 = some m.cls := findClass_of_methodNamed B.named
  have hlk := B.notSynchronized
  have hS : va_S (fun q : Nat => (∃ k, k < S.length ∧ q = fA F k) ∨ s.heap.size ≤ q) s.heap s.heap [] := va_S.rf
  have hB : ∀ q, (fun q : Nat => (∃ k, k < S.length ∧ q = fA F k) ∨ s.heap.size ≤ q) q → kBase D ≤ q := fun q h => by (rcases h with ⟨k, hk, e⟩ | h; (rw [e]; exact (hP_kState_st.2.2.2.2.2.2.2 k hk).1); (have h2 := hK.size; exact Nat.le_trans h2 h))
  have hl := lv_entry ([.ref st]) (n := 4) (Nat.le_of_ble_eq_true rfl)
  rw [lg_entry_eq]
  generalize (lg_sl ([.ref st]) ++ List.replicate (4 - (lg_sl ([.ref st])).length) Slot.unset).toArray = ls at hl ⊢
  have hl : lv_has ls 4 [(0, .ref st)] := hl
  have hL8 := hok.1
  have hks9 := hK.size
  refine kx_iconst hx hb dX2_labelAll_0 ?_
  refine lv_istore_n (lv' := [(1, .int (kI (0))), (0, .ref st)]) hx hb dX2_labelAll_1 rfl hl (by decide) rfl (fun ls hl => ?_)
  have lp_2_x_1 : ∀ (n_2 : Nat) (k : Nat) (S1 : Ls) (H : Heap) (hP_kState_st : kState D H st la ea gap S1 F) (hk : k ≤ S.length) (hS1 : S1 = st_clTo S k) (locs : List Loc) (hS : va_S (fun q : Nat => (∃ k, k < S.length ∧ q = fA F k) ∨ s.heap.size ≤ q) s.heap H locs) (hm_2 : S.length - k < n_2) (ls : Array Slot), lv_has ls 4 [(0, .ref st), (1, .int (kI ((k : Nat) : Int)))] → W p l e (headSpec (ws_ yX2_labelAll cX2_labelAll 4 (some .int)) ({ frames := 10, cells := 3011, slots := 8494, locals := 3169 } : Room)).room s m ([.ref st] : List Value).toArray below meth c H locs (0) (0) (MQ below (kQi (fun (r : Int) H' => (r = st_lab (st_la S gap)) ∧ (kState D H' st la ea gap ((st_la S gap)) F)) (fun q : Nat => (∃ k, k < S.length ∧ q = fA F k) ∨ s.heap.size ≤ q)) ([.ref st] : List Value).toArray s (3011) (8494) ((fun q : Nat => (∃ k, k < S.length ∧ q = fA F k) ∨ s.heap.size ≤ q))) (F0 m 2 ls []) := by
    intro n_2
    induction n_2 with
    | zero => intro k S1 H hP_kState_st hk hS1 locs hS hm_2; exact absurd hm_2 (Nat.not_lt_zero _)
    | succ n_2 ih_2 =>
      intro k S1 H hP_kState_st hk hS1 locs hS hm_2 ls hl
      have hsz1 := hS.1
      have hd91 := hK.dis
      have hx91 : ¬ kBase D ≤ D.2.2.2 2 := hK.tE.out
      obtain ⟨⟨hO_st1, mc1, hO_la1⟩, hLs91, hLn91, hF91, hDs91, hb11, hb21, hb31⟩ := id hP_kState_st
      have hok1 : LsOK S1 gap := by rw [hS1]; exact hok.clTo k hk
      have hl1 : S1.length = S.length := by rw [hS1]; exact st_clTo_len S k
      refine lv_iload_n hx hb dX2_labelAll_2 rfl (lv_at hl 1 rfl) ?_
      refine lv_aload_n hx hb dX2_labelAll_3 rfl (lv_at hl 0 rfl) ?_
      refine kx_get (v := .ref la) (C := RX2) (T := TX2) (N := 2) hx hb hts in_X2 hown hK hO_st1 rfl 0 (by decide) q167 (fun _ h9 => h9) rfl dX2_labelAll_4 ?_
      refine kx_cFi0 (va_runF (C := RJ2) (As := []) (rest := [.int (kI ((k : Nat) : Int))]) (hK.at (ci := 9) rfl) ⟨hx, hb, hml, hown, hts⟩ (m_J2_size l D H la mc1 ea S1.length hO_la1 ) (va_cwF (x := ({ cls := "java/util/List", name := "size", desc := "()I" } : Jvm.MethodName)) 0 hts (lw_F q279 q283 q285 q83 q287) rfl rfl rfl (hK.fw (by decide)) (by decide +kernel) ⟨Nat.le_of_ble_eq_true rfl, Nat.le_of_ble_eq_true rfl⟩) (kx_pv hK hS hB (kx_rc hK hO_la1 (C := RJ2) (T := TJ2) (N := 3) rfl)) rfl rfl hl.1 rfl (lv_room (Nat.le_of_ble_eq_true rfl)) dX2_labelAll_7 ⟨by first | exact Nat.le_of_ble_eq_true rfl | omega | (show _ ≤ _; omega) | (dsimp only [headSpec]; omega), by first | exact Nat.le_of_ble_eq_true rfl | omega | (show _ ≤ _; omega) | (dsimp only [headSpec]; omega)⟩) hS (fun z_5 locs_2 hz_4 hS_3 => ?_)
      subst z_5
      refine kx_icmp_ge (x := ((k : Nat) : Int)) (y := ((S1.length : Nat) : Int)) (tgt := 38) hx hb dX2_labelAll_12 (by decide) (by omega) (by omega) (by omega) (by omega) (fun c_12_6 => ?_) (fun c_12_6 => ?_)
      · -- taken at 12
        refine kx_iconst hx hb dX2_labelAll_38 ?_
        refine lv_istore_n (lv' := [(1, .int (kI (0))), (0, .ref st)]) hx hb dX2_labelAll_39 rfl hl (by decide) rfl (fun ls hl => ?_)
        refine lv_aload_n hx hb dX2_labelAll_40 rfl (lv_at hl 1 rfl) ?_
        have hk9 : k = S.length := by omega
        obtain ⟨b0, hb0v⟩ : ∃ z, z = H.size := ⟨_, rfl⟩
        have hd9 := hK.dis
        have hbB9 : kBase D ≤ b0 := by omega
        have hk1 : st_keys S1 = st_keys S := by rw [hS1, hk9]; exact st_keys_eq (st_clTo_len S _) (st_cl_lv S _ (Nat.le_refl _))
        have hown9 : ∀ q, kOwn D st la ea F S.length q → q < b0 := fun q hq => by rw [hb0v]; exact hP_kState_st.ownlt hx91 (by rw [hl1]; exact hq)
        refine kx_cr (va_runV (As := []) (rest := []) ⟨hx, hb, hml, hown, hts⟩ (m_X2_byLevels l D H st la mc1 ea F S1 gap b0 hO_st1 hO_la1 hLs91 hLn91 (by first | assumption | omega) hb0v) (cwV 0 hts (lw_V q529 q531 qs7 q80 q532) rfl rfl rfl (by decide +kernel) ⟨Nat.le_of_ble_eq_true rfl, Nat.le_of_ble_eq_true rfl⟩) (kx_pv hK hS_3 hB (kx_rc hK hO_st1 (C := RX2) (T := TX2) (N := 2) rfl)) rfl rfl hl.1 rfl (lv_room (Nat.le_of_ble_eq_true rfl)) dX2_labelAll_41 ⟨by first | exact Nat.le_of_ble_eq_true rfl | omega | (show _ ≤ _; omega) | (dsimp only [headSpec]; omega), by first | exact Nat.le_of_ble_eq_true rfl | omega | (show _ ≤ _; omega) | (dsimp only [headSpec]; omega)⟩) hS_3 (fun q _ h => Or.inr (by (try dsimp only at h); (try simp only [kNW] at h); omega)) (fun q h => Or.inr (by (try dsimp only at h); (try simp only [kNW] at h); omega)) (fun mp H_10 locs_7 hz_9 hF_11 hS_8 => ?_)
        have hzf_12 := hF_11.1
        have hF_11 := hF_11.nw
        refine W.widen (k := 17) (n := 65) (Nat.le_of_ble_eq_true rfl) (Nat.le_of_ble_eq_true rfl) ?_
        obtain ⟨E, ho_14, hE9, hnm9⟩ := hz_9
        obtain ⟨ro, kf, vf, lf, rt, pr, co, t, kv, hTO, hTN, hBX, hZ, hio, hbl, hkv, hbm, hbE⟩ := ho_14
        have hmpM9 : mp ∉ (E.map Prod.fst) := fun z => kO_ne hd9 hTO (hTN _ z).2 (by decide) (by decide) (by decide) rfl
        have hbm9 : ∀ a, a ∈ (E.map Prod.fst) → kf a ≠ mp := fun a ha => kO_ne hd9 (hBX a ha).1 hTO (by decide) (by decide) (by decide)
        have hE9 : E.map Prod.snd = st_keys S := by rw [hE9, hk1]
        refine kx_cr (va_runV (As := []) (rest := []) ⟨hx, hb, hml, hown, hts⟩ (m_J28_keySet l D H_10 mp ro E.length (((E.length : Nat) : Int)) hTO (by first | assumption | omega)) (cwV 0 hts (lw_V q906 q907 q908 q117 q909) rfl rfl rfl (by decide +kernel) ⟨Nat.le_of_ble_eq_true rfl, Nat.le_of_ble_eq_true rfl⟩) (kx_pv hK hS_8 hB (kx_rc hK hTO (C := RJ28) (T := TJ28) (N := 9) rfl)) rfl rfl hl.1 rfl (lv_room (Nat.le_of_ble_eq_true rfl)) dX2_labelAll_44 ⟨by first | exact Nat.le_of_ble_eq_true rfl | omega | (show _ ≤ _; omega) | (dsimp only [headSpec]; omega), by first | exact Nat.le_of_ble_eq_true rfl | omega | (show _ ≤ _; omega) | (dsimp only [headSpec]; omega)⟩) hS_8 (fun q _ h => Or.inr (by rcases h with h | h <;> omega)) (fun q h => Or.inr (by rcases h with h | h <;> omega)) (fun kz H_18 locs_15 hz_17 hF_19 hS_16 => ?_)
        have hzf_20 := hF_19.1
        refine W.widen (k := 18) (n := 66) (Nat.le_of_ble_eq_true rfl) (Nat.le_of_ble_eq_true rfl) ?_
        obtain ⟨ho_21, ho_22, hnk9⟩ := hz_17
        have h_23 := hTN.fr hF_19 (fun a ha h => by have h9 := (hTN a ha).2.lt; rcases h with h | h; (exact hmpM9 (by rw [← h]; exact ha)); omega)
        refine kx_cFr (va_runF (C := RJ31) (As := []) (rest := []) (hK.at (ci := 17) rfl) ⟨hx, hb, hml, hown, hts⟩ (m_J31_iterator l D H_18 kz mp ro E.length (((((E.length : Nat) : Int)))) (some kz) ((E.map Prod.fst)) kf vf lf rt pr co t ho_21 ho_22 h_23 hZ) (va_cwF (x := ({ cls := "java/util/Set", name := "iterator", desc := "()Ljava/util/Iterator;" } : Jvm.MethodName)) 0 hts (lw_F q928 q932 q934 q121 q936) rfl rfl rfl (hK.fw (by decide)) (by decide +kernel) ⟨Nat.le_of_ble_eq_true rfl, Nat.le_of_ble_eq_true rfl⟩) (kx_pv hK hS_16 hB (kx_rc hK ho_21 (C := RJ31) (T := TJ31) (N := 1) rfl)) rfl rfl hl.1 rfl (lv_room (Nat.le_of_ble_eq_true rfl)) dX2_labelAll_47 ⟨by first | exact Nat.le_of_ble_eq_true rfl | omega | (show _ ≤ _; omega) | (dsimp only [headSpec]; omega), by first | exact Nat.le_of_ble_eq_true rfl | omega | (show _ ≤ _; omega) | (dsimp only [headSpec]; omega)⟩) hS_16 (fun q _ h => Or.inr (by (try dsimp only at h); (try simp only [kNW] at h); omega)) (fun q h => Or.inr (by (try dsimp only at h); (try simp only [kNW] at h); omega)) (fun it H_27 locs_24 hz_26 hF_28 hS_25 => ?_)
        have hzf_29 := hF_28.1
        have hF_28 := hF_28.nw
        refine W.widen (k := 19) (n := 70) (Nat.le_of_ble_eq_true rfl) (Nat.le_of_ble_eq_true rfl) ?_
        obtain ⟨ho_30, hni9⟩ := hz_26
        have h_31 := ho_22.ex hF_28
        have h_32 := h_23.ex hF_28
        have h_33 := hBX.fr hF_19 (fun a ha h => by have h9 := (hBX a ha).1.lt; rcases h with h | h; (exact hbm9 a ha h); omega)
        have h_34 := h_33.ex hF_28
        have hlE9 : E.length ≤ 8 := by have h8 := congrArg List.length hE9; rw [List.length_map, st_keys_len] at h8; omega
        have hIT0 : kIt D H_27 it b0 (E.map Prod.snd) := ⟨mp, E, [], E, ro, some kz, none, E.length, ((E.length : Nat) : Int), kf, vf, lf, rt, pr, co, t, kv, (by rw [← hio]; exact ho_30), h_31, h_32, h_34, hZ, hio, hkv, rfl, rfl, (by omega), hbm, (by omega), hbE⟩
        refine lv_astore_n (lv' := [(2, .ref it), (1, .int (kI (0))), (0, .ref st)]) hx hb dX2_labelAll_52 rfl hl (by decide) rfl (fun ls hl => ?_)
        have lp_53_x_35 : ∀ (n_53 : Nat) (d : Nat) (R : List Int) (S2 : Ls) (w : Int) (H : Heap) (hP_kState_st : kState D H st la ea gap S2 F) (hP_kIt_it : kIt D H it b0 R) (hR : R = (st_keys S).drop d) (hS2 : S2 = st_laTo S gap d) (hw : w = st_lab S2) (hd : d ≤ S.length) (hbs2 : b0 ≤ H.size) (locs : List Loc) (hS : va_S (fun q : Nat => (∃ k, k < S.length ∧ q = fA F k) ∨ s.heap.size ≤ q) s.heap H locs) (hm_53 : R.length < n_53) (ls : Array Slot), lv_has ls 4 [(0, .ref st), (1, .int (kI (w))), (2, .ref it)] → W p l e (headSpec (ws_ yX2_labelAll cX2_labelAll 4 (some .int)) ({ frames := 10, cells := 3011, slots := 8494, locals := 3169 } : Room)).room s m ([.ref st] : List Value).toArray below meth c H locs (19 + 374 * d) (70 + 1053 * d) (MQ below (kQi (fun (r : Int) H' => (r = st_lab (st_la S gap)) ∧ (kState D H' st la ea gap ((st_la S gap)) F)) (fun q : Nat => (∃ k, k < S.length ∧ q = fA F k) ∨ s.heap.size ≤ q)) ([.ref st] : List Value).toArray s (3011) (8494) ((fun q : Nat => (∃ k, k < S.length ∧ q = fA F k) ∨ s.heap.size ≤ q))) (F0 m 53 ls []) := by
          intro n_53
          induction n_53 with
          | zero => intro d R S2 w H hP_kState_st hP_kIt_it hR hS2 hw hd hbs2 locs hS hm_53; exact absurd hm_53 (Nat.not_lt_zero _)
          | succ n_53 ih_53 =>
            intro d R S2 w H hP_kState_st hP_kIt_it hR hS2 hw hd hbs2 locs hS hm_53 ls hl
            have hsz2 := hS.1
            have hl2 : S2.length = S.length := by rw [hS2]; exact st_laTo_len S gap d
            have hok2 : LsOK S2 gap := by rw [hS2]; exact hok.laTo d hd
            obtain ⟨mp9, E9, P9, Q9, ro9, ks9, lr9, sz9, mc9, kf9, vf9, lf9, rt9, pr9, co9, t9, kv9, hI1, hI2, hI3, hI4, hIZ, hIio, hIkv, hIE, hIR, hIb1, hIb2, hImc, hIbE⟩ := id hP_kIt_it
            rcases Q9 with _ | ⟨⟨a9, K9⟩, Q9⟩
            · -- nothing left
              have hI1n : kO D H it 18 [.null, va_rf lr9, .int (kI mc9), .ref mp9] := hI1
              have hRn9 : (st_keys S).drop d = [] := hR.symm.trans hIR
              refine lv_aload_n hx hb dX2_labelAll_53 rfl (lv_at hl 2 rfl) ?_
              refine kx_cFb0 (va_runF (C := RJ33) (As := []) (rest := []) (hK.at (ci := 18) rfl) ⟨hx, hb, hml, hown, hts⟩ (m_J32_hasNext l D H it none lr9 mp9 mc9 hI1n ) (va_cwF (x := ({ cls := "java/util/Iterator", name := "hasNext", desc := "()Z" } : Jvm.MethodName)) 0 hts (lw_F q973 q977 q979 q122 q981) rfl rfl rfl (hK.fw (by decide)) (by decide +kernel) ⟨Nat.le_of_ble_eq_true rfl, Nat.le_of_ble_eq_true rfl⟩) (kx_pv hK hS hB (kx_rc hK hI1n (C := RJ33) (T := TJ33) (N := 4) rfl)) rfl rfl hl.1 rfl (lv_room (Nat.le_of_ble_eq_true rfl)) dX2_labelAll_54 ⟨by first | exact Nat.le_of_ble_eq_true rfl | omega | (show _ ≤ _; omega) | (dsimp only [headSpec]; omega), by first | exact Nat.le_of_ble_eq_true rfl | omega | (show _ ≤ _; omega) | (dsimp only [headSpec]; omega)⟩) hS (fun z_39 locs_36 hz_38 hS_37 => ?_)
              subst z_39
              refine kx_ifz (tgt := 97) hx hb dX2_labelAll_59 (by decide) (fun c_59_40 => ?_) (fun c_59_40 => ?_)
              · -- taken at 59
                have hdl9 : d = S.length := by have h9 := st_keys_nil hRn9; omega
                have hfin9 : kState D H st la ea gap (st_la S gap) F := by have h9 := hP_kState_st; rw [hS2, hdl9] at h9; exact h9
                refine lv_iload_n hx hb dX2_labelAll_97 rfl (lv_at hl 1 rfl) ?_
                refine W.widen (k := 3011) (n := 8494) (by omega) (by omega) ?_
                exact kx_iret (z := w) hx hb hr hlk (⟨by rw [hw, hS2, show d = S.length by omega]; rfl, hfin9⟩) hS_37 dX2_labelAll_98
              · -- not taken at 59
                first | exact absurd c_59_40 (by decide) | exact Bool.noConfusion c_59_40 | (simp at c_59_40; done)
            · -- an entry
              have hI1s : kO D H it 18 [.ref a9, va_rf lr9, .int (kI mc9), .ref mp9] := hI1
              have hkh9 := st_keys_head hok (hR.symm.trans hIR)
              have haE9 : a9 ∈ E9.map Prod.fst := List.mem_map.mpr ⟨(a9, K9), by rw [hIE]; simp, rfl⟩
              have hkK9 : kv9 a9 = K9 := hIkv (a9, K9) (by rw [hIE]; simp)
              have hsp9 : tio t9 = P9.map Prod.fst ++ a9 :: Q9.map Prod.fst := by rw [hIio, hIE]; simp
              refine lv_aload_n hx hb dX2_labelAll_53 rfl (lv_at hl 2 rfl) ?_
              refine kx_cFb0 (va_runF (C := RJ33) (As := []) (rest := []) (hK.at (ci := 18) rfl) ⟨hx, hb, hml, hown, hts⟩ (m_J32_hasNext l D H it (some a9) lr9 mp9 mc9 hI1s ) (va_cwF (x := ({ cls := "java/util/Iterator", name := "hasNext", desc := "()Z" } : Jvm.MethodName)) 0 hts (lw_F q973 q977 q979 q122 q981) rfl rfl rfl (hK.fw (by decide)) (by decide +kernel) ⟨Nat.le_of_ble_eq_true rfl, Nat.le_of_ble_eq_true rfl⟩) (kx_pv hK hS hB (kx_rc hK hI1s (C := RJ33) (T := TJ33) (N := 4) rfl)) rfl rfl hl.1 rfl (lv_room (Nat.le_of_ble_eq_true rfl)) dX2_labelAll_54 ⟨by first | exact Nat.le_of_ble_eq_true rfl | omega | (show _ ≤ _; omega) | (dsimp only [headSpec]; omega), by first | exact Nat.le_of_ble_eq_true rfl | omega | (show _ ≤ _; omega) | (dsimp only [headSpec]; omega)⟩) hS (fun z_44 locs_41 hz_43 hS_42 => ?_)
              subst z_44
              refine kx_ifz (tgt := 97) hx hb dX2_labelAll_59 (by decide) (fun c_59_45 => ?_) (fun c_59_45 => ?_)
              · -- taken at 59
                first | exact absurd c_59_45 (by decide) | exact Bool.noConfusion c_59_45 | (simp at c_59_45; done)
              · -- not taken at 59
                refine lv_aload_n hx hb dX2_labelAll_62 rfl (lv_at hl 2 rfl) ?_
                refine kx_cFr (va_runF (C := RJ33) (As := []) (rest := []) (hK.at (ci := 18) rfl) ⟨hx, hb, hml, hown, hts⟩ (m_J33_next l D H it lr9 mp9 ro9 sz9 mc9 ks9 ((E9.map Prod.fst)) kf9 vf9 lf9 rt9 pr9 co9 t9 a9 ((P9.map Prod.fst)) ((Q9.map Prod.fst)) hI1s hI2 hI3 hIZ hsp9 hImc ((by omega))) (va_cwF (x := ({ cls := "java/util/Iterator", name := "next", desc := "()Ljava/lang/Object;" } : Jvm.MethodName)) 0 hts (lw_F q983 q986 q988 q123 q990) rfl rfl rfl (hK.fw (by decide)) (by decide +kernel) ⟨Nat.le_of_ble_eq_true rfl, Nat.le_of_ble_eq_true rfl⟩) (kx_pv hK hS_42 hB (kx_rc hK hI1s (C := RJ33) (T := TJ33) (N := 4) rfl)) rfl rfl hl.1 rfl (lv_room (Nat.le_of_ble_eq_true rfl)) dX2_labelAll_63 ⟨by first | exact Nat.le_of_ble_eq_true rfl | omega | (show _ ≤ _; omega) | (dsimp only [headSpec]; omega), by first | exact Nat.le_of_ble_eq_true rfl | omega | (show _ ≤ _; omega) | (dsimp only [headSpec]; omega)⟩) hS_42 (fun q _ h => Or.inr (by have h9 : q = it := h; omega)) (fun q h => Or.inr (by have h9 : q = it := h; omega)) (fun z_51 H_49 locs_46 hz_48 hF_50 hS_47 => ?_)
                have hzf_52 := hF_50.1
                obtain ⟨hv_53, ho_54⟩ := hz_48
                subst z_51
                have h_55 := hI2.fr hF_50 (fun h => kO_ne hd9 hI2 hI1s (by decide) (by decide) (by decide) h)
                have h_56 := hI3.fr hF_50 (fun x hx h => kO_ne hd9 (hI3 x hx).2 hI1s (by decide) (by decide) (by decide) h)
                have h_57 := hI4.fr hF_50 (fun x hx h => kO_ne hd9 (hI4 x hx).1 hI1s (by decide) (by decide) (by decide) h)
                have hITn : kIt D H_49 it b0 (Q9.map Prod.snd) := ⟨mp9, E9, P9 ++ [(a9, K9)], Q9, ro9, ks9, some a9, sz9, mc9, kf9, vf9, lf9, rt9, pr9, co9, t9, kv9, ho_54, h_55, h_56, h_57, hIZ, hIio, hIkv, (by rw [hIE]; simp), rfl, hIb1, hIb2, hImc, hIbE⟩
                have hbx9 : kO D H_49 (kf9 a9) 14 [.int (kI K9)] := by have h9 := (h_57 a9 haE9).1; rw [hkK9] at h9; exact h9
                refine kx_castS hx hb hts hown q1000 hK hbx9 rfl dX2_labelAll_68 ?_
                refine kx_ci0 (va_runV (As := []) (rest := []) ⟨hx, hb, hml, hown, hts⟩ (m_J23_intValue l D H_49 (kf9 a9) K9 hbx9 ) (cwV 0 hts (lw_V q1001 q1002 q1003 q111 q1004) rfl rfl rfl (by decide +kernel) ⟨Nat.le_of_ble_eq_true rfl, Nat.le_of_ble_eq_true rfl⟩) (kx_pv hK hS_47 hB (kx_rc hK hbx9 (C := RJ23) (T := TJ23) (N := 1) rfl)) rfl rfl hl.1 rfl (lv_room (Nat.le_of_ble_eq_true rfl)) dX2_labelAll_71 ⟨by first | exact Nat.le_of_ble_eq_true rfl | omega | (show _ ≤ _; omega) | (dsimp only [headSpec]; omega), by first | exact Nat.le_of_ble_eq_true rfl | omega | (show _ ≤ _; omega) | (dsimp only [headSpec]; omega)⟩) hS_47 (fun z_61 locs_58 hz_60 hS_59 => ?_)
                subst z_61
                refine lv_istore_n (lv' := [(3, .int (kI (K9))), (0, .ref st), (1, .int (kI (w))), (2, .ref it)]) hx hb dX2_labelAll_74 rfl hl (by decide) rfl (fun ls hl => ?_)
                refine lv_iload_n hx hb dX2_labelAll_75 rfl (lv_at hl 2 rfl) ?_
                refine lv_aload_n hx hb dX2_labelAll_76 rfl (lv_at hl 1 rfl) ?_
                refine lv_iload_n hx hb dX2_labelAll_77 rfl (lv_at hl 0 rfl) ?_
                refine kx_bipush hx hb (by decide) dX2_labelAll_78 ?_
                refine kx_irem (x := K9) (y := 8) hx hb (by omega) (by omega) (by omega) (by omega) dX2_labelAll_80 ?_
                have h_62 := hP_kState_st.fr hd9 hF_50 (fun x hx => by rw [show x = it from hx]; exact Or.inr ⟨Or.inl ⟨18, _, by decide, by decide, by decide, hI1s⟩, fun w => absurd (hown9 _ (by first | exact w | (rw [hl1] at w; exact w) | (rw [hl2] at w; exact w))) (by omega)⟩)
                have hd92 := hK.dis
                have hx92 : ¬ kBase D ≤ D.2.2.2 2 := hK.tE.out
                obtain ⟨⟨hO_st2, mc2, hO_la2⟩, hLs92, hLn92, hF92, hDs92, hb12, hb22, hb32⟩ := id h_62
                have hbv9 := st_la_byLv hok hkh9.1
                obtain ⟨o9, ho9⟩ : ∃ o, o = (st_ord S).getD d 0 := ⟨_, rfl⟩
                have hcur9 : ln_lb (st_ln S2 o9) = -1 := by rw [hS2, ho9]; exact st_la_cur hok hkh9.1
                have ho8 : o9 < S2.length := by rw [hl2, ho9]; exact hbv9.2
                have hKo : K9 % 8 = ((o9 : Nat) : Int) := by rw [hkh9.2.1, ho9]; exact (st_byLv_ord hok.1 hkh9.1).1
                have hnx9 : st_laTo S gap (d + 1) = S2.set o9 (w_lb (st_ln S2 o9) (st_best S2 gap o9)) := by rw [st_laTo, hbv9.1, Int.toNat_natCast, ← ho9, ← hS2]
                have hfl9 : fA F o9 < b0 := hown9 _ (Or.inr (Or.inr (Or.inr ⟨o9, by omega, Or.inl rfl⟩)))
                obtain ⟨_, _, _, hLA9, _⟩ := h_62.2.2.1 o9 ho8
                refine kx_eqi (((o9 : Nat) : Int)) (hKo) ?_
                by_cases hbb : st_best S2 gap o9 = -1
                · -- hbb t
                  refine kx_cb (va_runV (As := [.int (kI ((o9 : Nat) : Int))]) (rest := [.int (kI (w))]) ⟨hx, hb, hml, hown, hts⟩ (m_X2_labelBest_no l D H_49 st la mc2 ea F S2 gap o9 hO_st2 hO_la2 hLs92 hLn92 (by first | assumption | omega) (by first | assumption | omega) ((Or.inr hbb))) (cwV 1 hts (lw_V q1005 q1006 q1007 q80 q1008) rfl rfl rfl (by decide +kernel) ⟨Nat.le_of_ble_eq_true rfl, Nat.le_of_ble_eq_true rfl⟩) (kx_pv hK hS_59 hB (kx_rc hK hO_st2 (C := RX2) (T := TX2) (N := 2) rfl)) rfl rfl hl.1 rfl (lv_room (Nat.le_of_ble_eq_true rfl)) dX2_labelAll_81 ⟨by first | exact Nat.le_of_ble_eq_true rfl | omega | (show _ ≤ _; omega) | (dsimp only [headSpec]; omega), by first | exact Nat.le_of_ble_eq_true rfl | omega | (show _ ≤ _; omega) | (dsimp only [headSpec]; omega)⟩) hS_59 (fun q _ h => Or.inr (by (try dsimp only at h); (try simp only [kNW] at h); omega)) (fun q h => Or.inr (by (try dsimp only at h); (try simp only [kNW] at h); omega)) (fun z_68 H_66 locs_63 hz_65 hF_67 hS_64 => ?_)
                  have hzf_69 := hF_67.1
                  have hF_67 := hF_67.nw
                  obtain ⟨hv_70, hnw_71⟩ := hz_65
                  subst z_68
                  refine kx_ifz (tgt := 91) hx hb dX2_labelAll_84 (by decide) (fun c_84_72 => ?_) (fun c_84_72 => ?_)
                  · -- taken at 84
                    refine kx_iconst hx hb dX2_labelAll_91 ?_
                    refine kx_iadd hx hb dX2_labelAll_92 ?_
                    refine lv_istore_n (lv' := [(1, .int (kI ((w + 0)))), (3, .int (kI (K9))), (0, .ref st), (2, .ref it)]) hx hb dX2_labelAll_93 rfl hl (by decide) rfl (fun ls hl => ?_)
                    refine lv_goto (tgt := 53) hx hb dX2_labelAll_94 (by decide) ?_
                    have h_73 := h_62.ex hF_67
                    have h_74 := hITn.ex hF_67
                    refine W.widen (k := 19 + 374 * (((d + 1)))) (n := 70 + 1053 * (((d + 1)))) (by omega) (by omega) ?_
                    exact ih_53  ((d + 1)) ((Q9.map Prod.snd)) S2 ((w + 0)) H_66 h_73 h_74 (hkh9.2.2.2.symm) (by rw [hnx9, hbb, la_same ho8 hcur9]) (by rw [hw]; omega) (by omega) (by first | assumption | omega | (simp_all; done) | grind) _ hS_64 (by rw [hIR, List.map_cons, List.length_cons] at hm_53; omega) ls (lv_sub hl [2, 0, 3] rfl)
                  · -- not taken at 84
                    first | exact absurd c_84_72 (by decide) | exact Bool.noConfusion c_84_72 | (simp at c_84_72; done)
                · -- hbb f
                  refine kx_cb (va_runV (As := [.int (kI ((o9 : Nat) : Int))]) (rest := [.int (kI (w))]) ⟨hx, hb, hml, hown, hts⟩ (m_X2_labelBest l D H_49 st la ea F S2 gap o9 h_62 (by first | assumption | omega) (by first | assumption | omega) hbb) (cwV 1 hts (lw_V q1005 q1006 q1007 q80 q1008) rfl rfl rfl (by decide +kernel) ⟨Nat.le_of_ble_eq_true rfl, Nat.le_of_ble_eq_true rfl⟩) (kx_pv hK hS_59 hB (kx_rc hK hO_st2 (C := RX2) (T := TX2) (N := 2) rfl)) rfl rfl hl.1 rfl (lv_room (Nat.le_of_ble_eq_true rfl)) dX2_labelAll_81 ⟨by first | exact Nat.le_of_ble_eq_true rfl | omega | (show _ ≤ _; omega) | (dsimp only [headSpec]; omega), by first | exact Nat.le_of_ble_eq_true rfl | omega | (show _ ≤ _; omega) | (dsimp only [headSpec]; omega)⟩) hS_59 (fun q _ h => by rcases h with h | h; exact Or.inl ⟨o9, by omega, h⟩; exact Or.inr (by omega)) (fun q h => by rcases h with h | h; exact Or.inl ⟨o9, by omega, h⟩; exact Or.inr (by omega)) (fun z_80 H_78 locs_75 hz_77 hF_79 hS_76 => ?_)
                  have hzf_81 := hF_79.1
                  obtain ⟨hv_82, ho_83⟩ := hz_77
                  subst z_80
                  refine kx_ifz (tgt := 91) hx hb dX2_labelAll_84 (by decide) (fun c_84_84 => ?_) (fun c_84_84 => ?_)
                  · -- taken at 84
                    first | exact absurd c_84_84 (by decide) | exact Bool.noConfusion c_84_84 | (simp at c_84_84; done)
                  · -- not taken at 84
                    refine kx_iconst hx hb dX2_labelAll_87 ?_
                    refine lv_goto (tgt := 92) hx hb dX2_labelAll_88 (by decide) ?_
                    refine kx_iadd hx hb dX2_labelAll_92 ?_
                    refine lv_istore_n (lv' := [(1, .int (kI ((w + 1)))), (3, .int (kI (K9))), (0, .ref st), (2, .ref it)]) hx hb dX2_labelAll_93 rfl hl (by decide) rfl (fun ls hl => ?_)
                    refine lv_goto (tgt := 53) hx hb dX2_labelAll_94 (by decide) ?_
                    have h_85 := hITn.fr hd9 hF_79 (fun x hx => by rcases hx with z | z; (rw [show x = fA F o9 from z]; exact Or.inr ⟨hfl9, _, hLA9⟩); exact Or.inl z)
                    refine W.widen (k := 19 + 374 * (((d + 1)))) (n := 70 + 1053 * (((d + 1)))) (by omega) (by omega) ?_
                    exact ih_53  ((d + 1)) ((Q9.map Prod.snd)) ((S2.set o9 (w_lb (st_ln S2 o9) (st_best S2 gap o9)))) ((w + 1)) H_78 ho_83 h_85 (hkh9.2.2.2.symm) (hnx9.symm) (by rw [st_lab_set ho8 _ hcur9, if_pos hbb, hw]) (by omega) (by first | assumption | omega | (simp_all; done) | grind) _ hS_76 (by rw [hIR, List.map_cons, List.length_cons] at hm_53; omega) ls (lv_sub hl [2, 0, 3] rfl)
        have h_86 := hP_kState_st.ex hF_11
        have h_87 := h_86.fr hd9 hF_19 (fun x hx => by rcases hx with z | z; (rw [show x = mp from z]; exact Or.inr ⟨Or.inl ⟨15, _, by decide, by decide, by decide, hTO⟩, fun w => absurd (hown9 _ (by first | exact w | (rw [hl1] at w; exact w) | (rw [hl2] at w; exact w))) (by omega)⟩); exact Or.inl z)
        have h_88 := h_87.ex hF_28
        refine W.widen (k := 19 + 374 * 0) (n := 70 + 1053 * 0) (by omega) (by omega) ?_
        exact lp_53_x_35 ((((E.map Prod.snd))).length + 1) 0 ((E.map Prod.snd)) S1 0 H_27 h_88 hIT0 (by rw [hE9]; rfl) (by rw [hS1, hk9]; rfl) (by rw [hS1, hk9]; exact (st_lab_cl S).symm) (Nat.zero_le _) (by first | assumption | omega | (simp_all; done) | grind) _ hS_25 (Nat.lt_succ_self _) ls (lv_sub hl [2, 1, 0] rfl)
      · -- not taken at 12
        refine lv_aload_n hx hb dX2_labelAll_15 rfl (lv_at hl 0 rfl) ?_
        refine kx_get (v := .ref la) (C := RX2) (T := TX2) (N := 2) hx hb hts in_X2 hown hK hO_st1 rfl 0 (by decide) q167 (fun _ h9 => h9) rfl dX2_labelAll_16 ?_
        refine lv_iload_n hx hb dX2_labelAll_19 rfl (lv_at hl 1 rfl) ?_
        refine kx_cFr0 (va_runF (C := RJ2) (As := [.int (kI ((k : Nat) : Int))]) (rest := []) (hK.at (ci := 9) rfl) ⟨hx, hb, hml, hown, hts⟩ (m_get l D H la mc1 ea S1.length F k hO_la1 hLs91 (by first | assumption | omega)) (va_cwF (x := ({ cls := "java/util/List", name := "get", desc := "(I)Ljava/lang/Object;" } : Jvm.MethodName)) 1 hts (lw_F q289 q292 q294 q83 q296) rfl rfl rfl (hK.fw (by decide)) (by decide +kernel) ⟨Nat.le_of_ble_eq_true rfl, Nat.le_of_ble_eq_true rfl⟩) (kx_pv hK hS_3 hB (kx_rc hK hO_la1 (C := RJ2) (T := TJ2) (N := 3) rfl)) rfl rfl hl.1 rfl (lv_room (Nat.le_of_ble_eq_true rfl)) dX2_labelAll_20 ⟨by first | exact Nat.le_of_ble_eq_true rfl | omega | (show _ ≤ _; omega) | (dsimp only [headSpec]; omega), by first | exact Nat.le_of_ble_eq_true rfl | omega | (show _ ≤ _; omega) | (dsimp only [headSpec]; omega)⟩) hS_3 (fun z_92 locs_89 hz_91 hS_90 => ?_)
        subst z_92
        obtain ⟨ea_93, gp_93, gs_93, ho_93, hp_93, hs_93, he_93, hm_93⟩ := (hLn91 k (by omega))
        have hen_93 := ((hLn91 k (by omega)).tyA.1).ne hd91 (b := ln_cl (st_ln S1 k)) he_93
        have hpn_93 := kOA_ne hd91 ho_93 hp_93 (by decide) (by decide)
        have hsn_93 := kOA_ne hd91 ho_93 hs_93 (by decide) (by decide)
        refine kx_castS hx hb hts hown q307 hK ho_93 rfl dX2_labelAll_25 ?_
        refine kx_iconst hx hb dX2_labelAll_28 ?_
        refine kx_put (v := .int (kI ((-1)))) (C := RX4) (T := TX4) (N := 6) hx hb hts in_X4 hown hK ho_93 rfl 5 (by decide) tyX4 tyX4_ok nmX4 hS_90 (Or.inl ⟨k, by omega, rfl⟩) q349 (fun _ h9 => h9) rfl rfl rfl rfl (Nat.le_of_ble_eq_true rfl) dX2_labelAll_29 (fun H_96 locs_97 hO_95 hU_94 hS_98 => ?_)
        have hO_95 : kO D H_96 (fA F k) 3 [.int (kI (ln_lv (st_ln S1 k))), .ref (fP F k), .ref (fS F k), .int (kI ((ln_n (st_ln S1 k) : Nat) : Int)), .ref ea_93, .int (kI ((-1)))] := hO_95
        have hzu_99 := hU_94.1
        have h_100 := hp_93.up hU_94 (by first | assumption | exact Ne.symm (by assumption) | omega | omega | (have h9 := hp_93.lt; omega))
        have h_101 := hs_93.up hU_94 (by first | assumption | exact Ne.symm (by assumption) | omega | omega | (have h9 := hs_93.lt; omega))
        have h_102 := he_93.up hU_94 (by first | assumption | exact Ne.symm (by assumption) | omega | omega | (have h9 := he_93.lt; omega))
        have hSt9 : kState D H_96 st la ea gap (S1.set k (w_lb (st_ln S1 k) (-1))) F := hP_kState_st.line hd91 (by omega) (kUp.fr hU_94) (fun x hx => Or.inr (Or.inl hx)) (LnAt.of (M := st_ln S1 k) rfl rfl hO_95 h_100 h_101 h_102 hm_93)
        refine lv_iinc (v := kI (((k + 1 : Nat) : Int))) (lv' := [(1, .int (kI ((k + 1 : Nat) : Int))), (0, .ref st)]) hx hb dX2_labelAll_32 hl (k := 1) rfl (kI_incN _ _) (by decide) rfl (fun ls hl => ?_)
        refine lv_goto (tgt := 2) hx hb dX2_labelAll_35 (by decide) ?_
        exact ih_2  (k + 1) ((S1.set k (w_lb (st_ln S1 k) (-1)))) H_96 hSt9 (by first | assumption | omega | (simp_all; done) | grind) (by rw [hS1]; rfl) _ hS_98 (by omega) ls (lv_sub hl [1, 0] rfl)
  exact lp_2_x_1 (S.length - 0 + 1) 0 S s.heap hP_kState_st (by first | assumption | omega | (simp_all; done) | grind) (rfl) _ hS (Nat.lt_succ_self _) ls (lv_sub hl [1, 0] rfl)

