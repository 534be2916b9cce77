/-! MATH 54: going through a map in order -/
theorem head_app {α : Type} (x y : List α) (h : x ≠ []) : (x ++ y).head? = x.head? := by cases x <;> simp_all
theorem tio_ne (a : Nat) (l r : TT) : tio (TN a l r) ≠ [] := by simp [tio]
theorem ZI.post {lf rt pr : Nat → Option Nat} {ro : Option Nat} {c : TC} {t l r : TT} {a : Nat} {M pre post : List Nat} (h : ZI lf rt pr ro c (TN a l r) M) (hio : tio (tpl c (TN a l r)) = tio t) (hsp : tio t = pre ++ a :: post) (hn : (tio t).Nodup) : post = tio r ++ taf c := by
  rw [tio_pl] at hio
  have h2 : (tbe c ++ tio l) ++ a :: (tio r ++ taf c) = pre ++ a :: post := by rw [← hsp, ← hio]; simp [tio]
  exact (split_uniq h2 (by rw [h2, ← hsp]; exact hn)).2.symm
def kIt (D : kG) (H : Heap) (it b0 : Nat) (R : List Int) : Prop := ∃ (mp : Nat) (E P Q : List (Nat × Int)) (ro ks lr : Option Nat) (sz : Nat) (mc : Int) (kf vf : Nat → Nat) (lf rt pr : Nat → Option Nat) (co : Nat → Bool) (t : TT) (kv : Nat → Int),
  kO D H it 18 [va_rf ((Q.map Prod.fst).head?), va_rf lr, .int (kI mc), .ref mp] ∧ kO D H mp 15 [.null, .null, .null, va_rf ro, .int (kI ((sz : Nat) : Int)), .int (kI mc), .null, va_rf ks, .null] ∧ kTN D H (E.map Prod.fst) kf vf lf rt pr co ∧ kBx D H (E.map Prod.fst) kf kv ∧ ZI lf rt pr ro [] t (E.map Prod.fst) ∧ tio t = E.map Prod.fst ∧ (∀ q, q ∈ E → kv q.1 = q.2) ∧ E = P ++ Q ∧ R = Q.map Prod.snd ∧ b0 ≤ it ∧ b0 ≤ mp ∧ (0 ≤ mc ∧ mc ≤ 1000) ∧ ∀ q, q ∈ E → b0 ≤ q.1
theorem kIt.ex {D : kG} {H H1 : Heap} {it b0 : Nat} {R : List Int} (h : kIt D H it b0 R) (q : kEx H H1) : kIt D H1 it b0 R := by
  obtain ⟨mp, E, P, Q, ro, ks, lr, sz, mc, kf, vf, lf, rt, pr, co, t, kv, h1, h2, h3, h4, h5⟩ := h
  exact ⟨mp, E, P, Q, ro, ks, lr, sz, mc, kf, vf, lf, rt, pr, co, t, kv, h1.ex q, h2.ex q, h3.ex q, h4.ex q, h5⟩
/-- writes to old cells of lines leave it -/
theorem kIt.fr {D : kG} (hd : kDis D) {H H1 : Heap} {it b0 : Nat} {R : List Int} {A : Nat → Prop} (h : kIt D H it b0 R) (q : kFr A H H1) (hA : ∀ x, A x → H.size ≤ x ∨ (x < b0 ∧ ∃ fs, kO D H x 3 fs)) : kIt D H1 it b0 R := by
  obtain ⟨mp, E, P, Q, ro, ks, lr, sz, mc, kf, vf, lf, rt, pr, co, t, kv, h1, h2, h3, h4, h5, h6, h7, h8, h9, h10, h11, h12, h13⟩ := h
  refine ⟨mp, E, P, Q, ro, ks, lr, sz, mc, kf, vf, lf, rt, pr, co, t, kv, h1.fr q (fun z => ?_), h2.fr q (fun z => ?_), h3.fr q (fun a ha z => ?_), h4.fr q (fun a ha z => ?_), h5, h6, h7, h8, h9, h10, h11, h12, h13⟩
  · rcases hA _ z with e | ⟨e, -⟩
    · exact absurd h1.lt (by omega)
    · omega
  · rcases hA _ z with e | ⟨e, -⟩
    · exact absurd h2.lt (by omega)
    · omega
  · obtain ⟨w, hw, rfl⟩ := List.mem_map.mp ha
    have hb := h13 w hw
    rcases hA _ z with e | ⟨e, -⟩
    · exact absurd (h3 _ ha).2.lt (by omega)
    · omega
  · rcases hA _ z with e | ⟨-, fs, e⟩
    · exact absurd (h4 a ha).1.lt (by omega)
    · exact kO_ne hd (h4 a ha).1 e (by decide) (by decide) (by decide) rfl
section KXQ
variable {p : Program} {l : Launch} {e : Env} {R : Room} {s : State} {m : MethodId} {args : Array Value} {below : List Frame} {meth : Method} {c : Code} {H : Heap} {locs : List Loc} {cells slots : Nat} {Q : State → Prop}
variable {cc : ByteArray} {pc : Nat} {ls : Array Slot} {rest : List Value}
theorem kx_astoreq_n (hx : p.tables.exec = Jvm.exec) (hb : c.code = cc) {x : Option Nat} {k : Fin 4} {i nL : Nat} {lv lv' : List (Nat × Value)} (d : decode cc pc = .ok (.astore_n k, 1)) (hi : (k : Nat) = i) (h : lv_has ls nL lv) (hn : i < nL) (hl : (i, va_rf x) :: lv.filter (fun q => !(q.1 == i) && !(q.1 + 1 == i && q.2.category == 2)) = lv') (kk : ∀ ls' : Array Slot, lv_has ls' nL lv' → W p l e R s m args below meth c H locs cells slots Q (F0 m (pc + 1) ls' rest)) : W p l e R s m args below meth c H locs cells slots Q (F0 m pc ls (va_rf x :: rest)) := by
  cases x with
  | none => exact lv_astore_nN hx hb d hi h hn hl kk
  | some y => exact lv_astore_n hx hb d hi h hn hl kk
theorem kx_astoreq (hx : p.tables.exec = Jvm.exec) (hb : c.code = cc) {x : Option Nat} {i nL : Nat} {lv lv' : List (Nat × Value)} (d : decode cc pc = .ok (.astore i, 2)) (h : lv_has ls nL lv) (hn : i < nL) (hl : (i, va_rf x) :: lv.filter (fun q => !(q.1 == i) && !(q.1 + 1 == i && q.2.category == 2)) = lv') (kk : ∀ ls' : Array Slot, lv_has ls' nL lv' → W p l e R s m args below meth c H locs cells slots Q (F0 m (pc + 2) ls' rest)) : W p l e R s m args below meth c H locs cells slots Q (F0 m pc ls (va_rf x :: rest)) := by
  cases x with
  | none => exact lv_astoreN hx hb d h hn hl kk
  | some y => exact lv_astore hx hb d h hn hl kk
theorem kx_aloadq_n (hx : p.tables.exec = Jvm.exec) (hb : c.code = cc) {x : Option Nat} {k : Fin 4} {i : Nat} (d : decode cc pc = .ok (.aload_n k, 1)) (hi : (k : Nat) = i) (hl : ls[i]? = some (.val (va_rf x))) (kk : W p l e R s m args below meth c H locs cells slots Q (F0 m (pc + 1) ls (va_rf x :: rest))) : W p l e R s m args below meth c H locs cells slots Q (F0 m pc ls rest) := by
  cases x with
  | none => exact lv_aload_nN hx hb d hi hl kk
  | some y => exact lv_aload_n hx hb d hi hl kk
theorem kx_aloadq (hx : p.tables.exec = Jvm.exec) (hb : c.code = cc) {x : Option Nat} {i : Nat} (d : decode cc pc = .ok (.aload i, 2)) (hl : ls[i]? = some (.val (va_rf x))) (kk : W p l e R s m args below meth c H locs cells slots Q (F0 m (pc + 2) ls (va_rf x :: rest))) : W p l e R s m args below meth c H locs cells slots Q (F0 m pc ls rest) := by
  cases x with
  | none => exact lv_aloadN hx hb d hl kk
  | some y => exact lv_aload hx hb d hl kk
end KXQ
set_option maxHeartbeats 4000000 in
set_option maxRecDepth 100000 in
theorem m_J30_init (l : Launch) (D : kG) (H : Heap) (x : Nat) : Met l yJ30_init (ws_ yJ30_init cJ30_init 1 none) ({ frames := 2, cells := 0, slots := 0, locals := 40 } : Room) (kPre D H [.ref x]) (kQv (fun H' => H' = H ∧ True) kNO) (0) (0) (kNO) := by
  refine Met.ofW (cc := cJ30_init) (maxL := 1) (ret := none) (by decide) rfl ?_
  intro p e s m args below meth c s₁ B hml hv
  obtain ⟨rfl, hH, hK⟩ := hv
  subst hH
  have hx := B.exec
  have hb := B.bytes
  have hr := B.returns
  have hts := atoms_spec (ws := ws_ yJ30_init cJ30_init 1 none) B.pre
  have hts : ∀ w ∈ lw_all, w.before _ s = true := fun w h => hts w (List.mem_cons_of_mem _ h)
  have hown : s.vm.findClass RJ30 = some m.cls := findClass_of_methodNamed B.named
  have hlk := B.notSynchronized
  have hin : meth.name = "<init>" := (name_of_methodNamed B.named B.method).1
  have hS : va_S kNO s.heap s.heap [] := va_S.rf
  have hB : ∀ q, kNO q → kBase D ≤ q := fun _ h => h.elim
  have hl := lv_entry ([.ref x]) (n := 1) (Nat.le_of_ble_eq_true rfl)
  rw [lg_entry_eq]
  generalize (lg_sl ([.ref x]) ++ List.replicate (1 - (lg_sl ([.ref x])).length) Slot.unset).toArray = ls at hl ⊢
  have hl : lv_has ls 1 [(0, .ref x)] := hl
  refine lv_aload_n hx hb dJ30_init_0 rfl (lv_at hl 0 rfl) ?_
  refine kx_cv0 (va_runI (As := []) (rest := []) ⟨hx, hb, hml, hown, hts⟩ (m_J0_init l D s.heap x  ) (cwI 0 hts (lw_meth q151) rfl rfl rfl (hts _ q81) (hts _ q922) (hts _ q150) rfl (by decide +kernel) ⟨Nat.le_of_ble_eq_true rfl, Nat.le_of_ble_eq_true rfl⟩) (kx_ps hK hS hB) rfl rfl hl.1 rfl (lv_room (Nat.le_of_ble_eq_true rfl)) dJ30_init_1 ⟨by first | exact Nat.le_of_ble_eq_true rfl | omega | (show _ ≤ _; omega) | (dsimp only [headSpec]; omega), by first | exact Nat.le_of_ble_eq_true rfl | omega | (show _ ≤ _; omega) | (dsimp only [headSpec]; omega)⟩) hS (fun locs_1 hz_3 hS_2 => ?_)
  exact kx_vret hx hb hr hlk (⟨rfl, trivial⟩) hS_2 dJ30_init_4

set_option maxHeartbeats 4000000 in
set_option maxRecDepth 100000 in
theorem m_J31_init (l : Launch) (D : kG) (H : Heap) (x : Nat) (mp : Nat) (ro : Option Nat) (sz : Nat) (mc : Int) (ks : Option Nat) (hO_x : kO D H x 17 [.null]) (hO_mp : kO D H mp 15 [.null, .null, .null, va_rf (ro), .int (kI ((sz : Nat) : Int)), .int (kI (mc)), .null, va_rf (ks), .null]) (bs_x : kBase D ≤ x) : Met l yJ31_init (ws_ yJ31_init cJ31_init 2 none) ({ frames := 3, cells := 0, slots := 0, locals := 60 } : Room) (kPre D H [.ref x, .ref mp]) (kQv (fun H' => (kO D H' x 17 [.ref mp])) (fun q : Nat => q = x)) (0) (0) ((fun q : Nat => q = x)) := by
  refine Met.ofW (cc := cJ31_init) (maxL := 2) (ret := none) (by decide) rfl ?_
  intro p e s m args below meth c s₁ B hml hv
  obtain ⟨rfl, hH, hK⟩ := hv
  subst hH
  have hx := B.exec
  have hb := B.bytes
  have hr := B.returns
  have hts := atoms_spec (ws := ws_ yJ31_init cJ31_init 2 none) B.pre
  have hts : ∀ w ∈ lw_all, w.before _ s = true := fun w h => hts w (List.mem_cons_of_mem _ h)
  have hown : s.vm.findClass RJ31 = some m.cls := findClass_of_methodNamed B.named
  have hlk := B.notSynchronized
  have hin : meth.name = "<init>" := (name_of_methodNamed B.named B.method).1
  have hS : va_S (fun q : Nat => q = x) s.heap s.heap [] := va_S.rf
  have hB : ∀ q, (fun q : Nat => q = x) q → kBase D ≤ q := fun q h => by (try dsimp only at h); (try simp only [kNW] at h); have hks := hK.size; omega
  have hl := lv_entry ([.ref x, .ref mp]) (n := 2) (Nat.le_of_ble_eq_true rfl)
  rw [lg_entry_eq]
  generalize (lg_sl ([.ref x, .ref mp]) ++ List.replicate (2 - (lg_sl ([.ref x, .ref mp])).length) Slot.unset).toArray = ls at hl ⊢
  have hl : lv_has ls 2 [(0, .ref x), (1, .ref mp)] := hl
  refine lv_aload_n hx hb dJ31_init_0 rfl (lv_at hl 0 rfl) ?_
  refine kx_cv0 (va_runI (As := []) (rest := []) ⟨hx, hb, hml, hown, hts⟩ (m_J30_init l D s.heap x  ) (cwI 0 hts (lw_meth q921) rfl rfl rfl (hts _ q120) (hts _ q919) (hts _ q920) rfl (by decide +kernel) ⟨Nat.le_of_ble_eq_true rfl, Nat.le_of_ble_eq_true rfl⟩) (kx_ps hK hS hB) rfl rfl hl.1 rfl (lv_room (Nat.le_of_ble_eq_true rfl)) dJ31_init_1 ⟨by first | exact Nat.le_of_ble_eq_true rfl | omega | (show _ ≤ _; omega) | (dsimp only [headSpec]; omega), by first | exact Nat.le_of_ble_eq_true rfl | omega | (show _ ≤ _; omega) | (dsimp only [headSpec]; omega)⟩) hS (fun locs_1 hz_3 hS_2 => ?_)
  refine lv_aload_n hx hb dJ31_init_4 rfl (lv_at hl 0 rfl) ?_
  refine lv_aload_n hx hb dJ31_init_5 rfl (lv_at hl 1 rfl) ?_
  refine kx_putF (v := .ref mp) (C := RJ31) (T := TJ31) (N := 1) hx hb hts in_J31 hown hK hO_x rfl 0 (by decide) tyJ31 tyJ31_ok nmJ31 hS_2 (by first | rfl | exact Or.inl rfl | exact Or.inr rfl | exact Or.inr (Or.inl rfl) | exact Or.inr (Or.inr rfl) | exact Or.inr (Or.inr (Or.inl rfl)) | exact Or.inr (Or.inr (Or.inr rfl)) | ((try dsimp only); (try simp only [kNW]); omega)) q923 (fun _ h9 => h9) rfl hin rfl rfl rfl rfl (Nat.le_of_ble_eq_true rfl) dJ31_init_6 (fun H_7 locs_8 hO_6 hU_5 hS_9 => ?_)
  have hO_6 : kO D H_7 x 17 [.ref mp] := hO_6
  have hzu_10 := hU_5.1
  exact kx_vret hx hb hr hlk (hO_6) hS_9 dJ31_init_9

set_option maxHeartbeats 4000000 in
set_option maxRecDepth 100000 in
theorem m_J28_navigableKeySet (l : Launch) (D : kG) (H : Heap) (mp : Nat) (ro : Option Nat) (sz : Nat) (mc : Int) (hO_mp : kO D H mp 15 [.null, .null, .null, va_rf (ro), .int (kI ((sz : Nat) : Int)), .int (kI (mc)), .null, .null, .null]) (bs_mp : kBase D ≤ mp) : Met l yJ28_navigableKeySet (ws_ yJ28_navigableKeySet cJ28_navigableKeySet 2 (some (.object "java/util/NavigableSet"))) ({ frames := 4, cells := 1, slots := 1, locals := 81 } : Room) (kPre D H [.ref mp]) (kQr (fun (r : Nat) H' => (kO D H' r 17 [.ref mp]) ∧ (kO D H' mp 15 [.null, .null, .null, va_rf (ro), .int (kI ((sz : Nat) : Int)), .int (kI (mc)), .null, .ref r, .null]) ∧ (H.size ≤ r)) (fun q : Nat => q = mp ∨ H.size ≤ q)) (1) (1) ((fun q : Nat => q = mp ∨ H.size ≤ q)) := by
  refine Met.ofW (cc := cJ28_navigableKeySet) (maxL := 2) (ret := (some (.object "java/util/NavigableSet"))) (by decide) rfl ?_
  intro p e s m args below meth c s₁ B hml hv
  obtain ⟨rfl, hH, hK⟩ := hv
  subst hH
  have hx := B.exec
  have hb := B.bytes
  have hr := B.returns
  have hts := atoms_spec (ws := ws_ yJ28_navigableKeySet cJ28_navigableKeySet 2 (some (.object "java/util/NavigableSet"))) B.pre
  have hts : ∀ w ∈ lw_all, w.before _ s = true := fun w h => hts w (List.mem_cons_of_mem _ h)
  have hown : s.vm.findClass RJ28 = some m.cls := findClass_of_methodNamed B.named
  have hlk := B.notSynchronized
  have hS : va_S (fun q : Nat => q = mp ∨ s.heap.size ≤ q) s.heap s.heap [] := va_S.rf
  have hB : ∀ q, (fun q : Nat => q = mp ∨ s.heap.size ≤ q) q → kBase D ≤ q := fun q h => by (try dsimp only at h); (try simp only [kNW] at h); have hks := hK.size; omega
  have hl := lv_entry ([.ref mp]) (n := 2) (Nat.le_of_ble_eq_true rfl)
  rw [lg_entry_eq]
  generalize (lg_sl ([.ref mp]) ++ List.replicate (2 - (lg_sl ([.ref mp])).length) Slot.unset).toArray = ls at hl ⊢
  have hl : lv_has ls 2 [(0, .ref mp)] := hl
  have hlt0 := hO_mp.lt
  refine lv_aload_n hx hb dJ28_navigableKeySet_0 rfl (lv_at hl 0 rfl) ?_
  refine kx_get (v := .null) (C := RJ28) (T := TJ28) (N := 9) hx hb hts in_J28 hown hK hO_mp rfl 7 (by decide) q547 (fun _ h9 => h9) rfl dJ28_navigableKeySet_1 ?_
  refine lv_astore_nN (lv' := [(1, .null), (0, .ref mp)]) hx hb dJ28_navigableKeySet_4 rfl hl (by decide) rfl (fun ls hl => ?_)
  refine lv_aload_nN hx hb dJ28_navigableKeySet_5 rfl (lv_at hl 0 rfl) ?_
  refine lv_ifnullN (tgt := 13) hx hb dJ28_navigableKeySet_6 (by decide) ?_
  refine lv_aload_n hx hb dJ28_navigableKeySet_13 rfl (lv_at hl 1 rfl) ?_
  refine kx_new (ci := 17) (fs := [.null]) (C := RJ31) (T := TJ31) (N := 1) hx hb hts in_J31 hown hK tyJ31 tyJ31_ok q914 q915 q121 hS rfl (fun j hj => by rcases (show j = 0 by omega) with rfl <;> rfl) (by first | exact Nat.le_of_ble_eq_true rfl | omega | (show _ ≤ _; omega) | (dsimp only [headSpec]; omega)) (by first | exact Nat.le_of_ble_eq_true rfl | omega | (show _ ≤ _; omega) | (dsimp only [headSpec]; omega)) dJ28_navigableKeySet_14 (fun kz H_1 hq_2 hz_3 hO_4 hE_5 hS_6 => ?_)
  have hge_kz : s.heap.size ≤ kz := by rw [hq_2]; exact hS.1
  refine W.widen (k := 1) (n := 1) (Nat.le_of_ble_eq_true rfl) (Nat.le_of_ble_eq_true rfl) ?_
  refine lv_dup hx hb dJ28_navigableKeySet_17 rfl ?_
  refine lv_aload_n hx hb dJ28_navigableKeySet_18 rfl (lv_at hl 1 rfl) ?_
  have h_7 := hO_mp.ex hE_5
  refine kx_cv (va_runI (As := [.ref mp]) (rest := [.ref kz, .ref mp]) ⟨hx, hb, hml, hown, hts⟩ (m_J31_init l D H_1 kz mp ro sz mc none hO_4 h_7 (by first | assumption | omega)) (cwI 1 hts (lw_meth q918) rfl rfl rfl (hts _ q121) (hts _ q916) (hts _ q917) rfl (by decide +kernel) ⟨Nat.le_of_ble_eq_true rfl, Nat.le_of_ble_eq_true rfl⟩) (kx_ps hK hS_6 hB) rfl rfl hl.1 rfl (lv_room (Nat.le_of_ble_eq_true rfl)) dJ28_navigableKeySet_19 ⟨by first | exact Nat.le_of_ble_eq_true rfl | omega | (show _ ≤ _; omega) | (dsimp only [headSpec]; omega), by first | exact Nat.le_of_ble_eq_true rfl | omega | (show _ ≤ _; omega) | (dsimp only [headSpec]; omega)⟩) hS_6 (fun q _ h => by have h9 := hS_6.1; (try dsimp only at h); (try dsimp only); (try simp only [kNW] at h); (try simp only [kNW]); omega) (fun q h => by have h9 := hS_6.1; (try dsimp only at h); (try dsimp only); (try simp only [kNW] at h); (try simp only [kNW]); omega) (fun H_11 locs_8 hz_10 hF_12 hS_9 => ?_)
  have hzf_14 := hF_12.1
  refine W.widen (k := 1) (n := 1) (Nat.le_of_ble_eq_true rfl) (Nat.le_of_ble_eq_true rfl) ?_
  have ho_15 := hz_10
  refine lv_dup_x1 hx hb dJ28_navigableKeySet_22 rfl rfl ?_
  have h_16 := h_7.fr hF_12 (fun h => by (try dsimp only at h); (try simp only [kNW] at h); omega)
  refine kx_put (v := .ref kz) (C := RJ28) (T := TJ28) (N := 9) hx hb hts in_J28 hown hK h_16 rfl 7 (by decide) tyJ28 tyJ28_ok nmJ28 hS_9 (by first | rfl | exact Or.inl rfl | exact Or.inr rfl | exact Or.inr (Or.inl rfl) | exact Or.inr (Or.inr rfl) | exact Or.inr (Or.inr (Or.inl rfl)) | exact Or.inr (Or.inr (Or.inr rfl)) | ((try dsimp only); (try simp only [kNW]); omega)) q547 (fun _ h9 => h9) rfl rfl rfl rfl (Nat.le_of_ble_eq_true rfl) dJ28_navigableKeySet_23 (fun H_19 locs_20 hO_18 hU_17 hS_21 => ?_)
  have hO_18 : kO D H_19 mp 15 [.null, .null, .null, va_rf (ro), .int (kI ((sz : Nat) : Int)), .int (kI (mc)), .null, .ref kz, .null] := hO_18
  have hzu_22 := hU_17.1
  have h_23 := ho_15.up hU_17 (by first | assumption | exact Ne.symm (by assumption)  | omega | (have h9 := ho_15.lt; omega))
  exact kx_aret (z := kz) hx hb hr (by first | exact Or.inl ⟨_, rfl⟩ | exact Or.inr ⟨_, rfl⟩) hlk (⟨h_23, hO_18, by first | assumption | rfl | omega | grind⟩) hS_21 dJ28_navigableKeySet_26

set_option maxHeartbeats 4000000 in
set_option maxRecDepth 100000 in
theorem m_J28_keySet (l : Launch) (D : kG) (H : Heap) (mp : Nat) (ro : Option Nat) (sz : Nat) (mc : Int) (hO_mp : kO D H mp 15 [.null, .null, .null, va_rf (ro), .int (kI ((sz : Nat) : Int)), .int (kI (mc)), .null, .null, .null]) (bs_mp : kBase D ≤ mp) : Met l yJ28_keySet (ws_ yJ28_keySet cJ28_keySet 1 (some (.object "java/util/Set"))) ({ frames := 5, cells := 1, slots := 1, locals := 102 } : Room) (kPre D H [.ref mp]) (kQr (fun (r : Nat) H' => (kO D H' r 17 [.ref mp]) ∧ (kO D H' mp 15 [.null, .null, .null, va_rf (ro), .int (kI ((sz : Nat) : Int)), .int (kI (mc)), .null, .ref r, .null]) ∧ (H.size ≤ r)) (fun q : Nat => q = mp ∨ H.size ≤ q)) (1) (1) ((fun q : Nat => q = mp ∨ H.size ≤ q)) := by
  refine Met.ofW (cc := cJ28_keySet) (maxL := 1) (ret := (some (.object "java/util/Set"))) (by decide) rfl ?_
  intro p e s m args below meth c s₁ B hml hv
  obtain ⟨rfl, hH, hK⟩ := hv
  subst hH
  have hx := B.exec
  have hb := B.bytes
  have hr := B.returns
  have hts := atoms_spec (ws := ws_ yJ28_keySet cJ28_keySet 1 (some (.object "java/util/Set"))) B.pre
  have hts : ∀ w ∈ lw_all, w.before _ s = true := fun w h => hts w (List.mem_cons_of_mem _ h)
  have hown : s.vm.findClass RJ28 = some m.cls := findClass_of_methodNamed B.named
  have hlk := B.notSynchronized
  have hS : va_S (fun q : Nat => q = mp ∨ s.heap.size ≤ q) s.heap s.heap [] := va_S.rf
  have hB : ∀ q, (fun q : Nat => q = mp ∨ s.heap.size ≤ q) q → kBase D ≤ q := fun q h => by (try dsimp only at h); (try simp only [kNW] at h); have hks := hK.size; omega
  have hl := lv_entry ([.ref mp]) (n := 1) (Nat.le_of_ble_eq_true rfl)
  rw [lg_entry_eq]
  generalize (lg_sl ([.ref mp]) ++ List.replicate (1 - (lg_sl ([.ref mp])).length) Slot.unset).toArray = ls at hl ⊢
  have hl : lv_has ls 1 [(0, .ref mp)] := hl
  have hlt0 := hO_mp.lt
  refine lv_aload_n hx hb dJ28_keySet_0 rfl (lv_at hl 0 rfl) ?_
  refine kx_cr (va_runV (As := []) (rest := []) ⟨hx, hb, hml, hown, hts⟩ (m_J28_navigableKeySet l D s.heap mp ro sz mc hO_mp (by first | assumption | omega)) (cwV 0 hts (lw_V q910 q911 q912 q117 q913) rfl rfl rfl (by decide +kernel) ⟨Nat.le_of_ble_eq_true rfl, Nat.le_of_ble_eq_true rfl⟩) (kx_pv hK hS hB (kx_rc hK hO_mp (C := RJ28) (T := TJ28) (N := 9) rfl)) rfl rfl hl.1 rfl (lv_room (Nat.le_of_ble_eq_true rfl)) dJ28_keySet_1 ⟨by first | exact Nat.le_of_ble_eq_true rfl | omega | (show _ ≤ _; omega) | (dsimp only [headSpec]; omega), by first | exact Nat.le_of_ble_eq_true rfl | omega | (show _ ≤ _; omega) | (dsimp only [headSpec]; omega)⟩) hS (fun q _ h => by have h9 := hS.1; (try dsimp only at h); (try dsimp only); (try simp only [kNW] at h); (try simp only [kNW]); omega) (fun q h => by have h9 := hS.1; (try dsimp only at h); (try dsimp only); (try simp only [kNW] at h); (try simp only [kNW]); omega) (fun z_6 H_4 locs_1 hz_3 hF_5 hS_2 => ?_)
  have hzf_7 := hF_5.1
  refine W.widen (k := 1) (n := 1) (Nat.le_of_ble_eq_true rfl) (Nat.le_of_ble_eq_true rfl) ?_
  obtain ⟨ho_8, ho_9, hnw9⟩ := hz_3
  exact kx_aret (z := z_6) hx hb hr (by first | exact Or.inl ⟨_, rfl⟩ | exact Or.inr ⟨_, rfl⟩) hlk (⟨ho_8, ho_9, by first | assumption | rfl | omega | grind⟩) hS_2 dJ28_keySet_4

set_option maxHeartbeats 4000000 in
set_option maxRecDepth 100000 in
theorem m_J28_getFirstEntry (l : Launch) (D : kG) (H : Heap) (mp : Nat) (ro : Option Nat) (sz : Nat) (mc : Int) (ks : Option Nat) (M : List Nat) (kf : Nat → Nat) (vf : Nat → Nat) (lf : Nat → Option Nat) (rt : Nat → Option Nat) (pr : Nat → Option Nat) (co : Nat → Bool) (t : TT) (hd : Option Nat) (hO_mp : kO D H mp 15 [.null, .null, .null, va_rf (ro), .int (kI ((sz : Nat) : Int)), .int (kI (mc)), .null, va_rf (ks), .null]) (hP_kTN_M : kTN D H M kf vf lf rt pr co) (hZ : ZI lf rt pr ro [] t M) (hhd : (tio t).head? = hd) : Met l yJ28_getFirstEntry (ws_ yJ28_getFirstEntry cJ28_getFirstEntry 2 (some (.object "java/util/TreeMap$Entry"))) ({ frames := 0, cells := 0, slots := 0, locals := 0 } : Room) (kPre D H [.ref mp]) (kQq (fun (r : Option Nat) H' => H' = H ∧ r = hd) kNO) (0) (0) (kNO) := by
  refine Met.ofW (cc := cJ28_getFirstEntry) (maxL := 2) (ret := (some (.object "java/util/TreeMap$Entry"))) (by decide) rfl ?_
  intro p e s m args below meth c s₁ B hml hv
  obtain ⟨rfl, hH, hK⟩ := hv
  subst hH
  have hx := B.exec
  have hb := B.bytes
  have hr := B.returns
  have hts := atoms_spec (ws := ws_ yJ28_getFirstEntry cJ28_getFirstEntry 2 (some (.object "java/util/TreeMap$Entry"))) B.pre
  have hts : ∀ w ∈ lw_all, w.before _ s = true := fun w h => hts w (List.mem_cons_of_mem _ h)
  have hown : s.vm.findClass RJ28 = some m.cls := findClass_of_methodNamed B.named
  have hlk := B.notSynchronized
  have hS : va_S kNO s.heap s.heap [] := va_S.rf
  have hB : ∀ q, kNO q → kBase D ≤ q := fun _ h => h.elim
  have hl := lv_entry ([.ref mp]) (n := 2) (Nat.le_of_ble_eq_true rfl)
  rw [lg_entry_eq]
  generalize (lg_sl ([.ref mp]) ++ List.replicate (2 - (lg_sl ([.ref mp])).length) Slot.unset).toArray = ls at hl ⊢
  have hl : lv_has ls 2 [(0, .ref mp)] := hl
  rcases t with ⟨n0, r0, u0, tl0, tr0⟩ | _
  · -- entries
    have hZ := hZ.nrm
    have hro : ro = some r0 := hZ.2.2.2.1
    refine lv_aload_n hx hb dJ28_getFirstEntry_0 rfl (lv_at hl 0 rfl) ?_
    refine kx_get (v := va_rf (ro)) (C := RJ28) (T := TJ28) (N := 9) hx hb hts in_J28 hown hK hO_mp rfl 3 (by decide) q543 (fun _ h9 => h9) rfl dJ28_getFirstEntry_1 ?_
    refine kx_eqq hx hb (b := r0) (hro) ?_
    refine lv_astore_n (lv' := [(1, .ref r0), (0, .ref mp)]) hx hb dJ28_getFirstEntry_4 rfl hl (by decide) rfl (fun ls hl => ?_)
    refine lv_aload_n hx hb dJ28_getFirstEntry_5 rfl (lv_at hl 0 rfl) ?_
    refine lv_ifnull hx hb dJ28_getFirstEntry_6 ?_
    have lp_9_x_1 : ∀ (n_9 : Nat) (y : Nat) (cz : TC) (tl : TT) (tr : TT) (hZy : ZI lf rt pr ro cz (TN y tl tr) M) (hhy : (tio (TN y tl tr)).head? = hd) (locs : List Loc) (hS : va_S kNO s.heap s.heap locs) (hm_9 : (tio (TN y tl tr)).length < n_9) (ls : Array Slot), lv_has ls 2 [(0, .ref mp), (1, .ref y)] → W p l e (headSpec (ws_ yJ28_getFirstEntry cJ28_getFirstEntry 2 (some (.object "java/util/TreeMap$Entry"))) ({ frames := 0, cells := 0, slots := 0, locals := 0 } : Room)).room s m ([.ref mp] : List Value).toArray below meth c s.heap locs (0) (0) (MQ below (kQq (fun (r : Option Nat) H' => H' = s.heap ∧ r = hd) kNO) ([.ref mp] : List Value).toArray s (0) (0) (kNO)) (F0 m 9 ls []) := by
      intro n_9
      induction n_9 with
      | zero => intro y cz tl tr hZy hhy locs hS hm_9; exact absurd hm_9 (Nat.not_lt_zero _)
      | succ n_9 ih_9 =>
        intro y cz tl tr hZy hhy locs hS hm_9 ls hl
        have hyM : y ∈ M := hZy.memT (by simp [tio])
        obtain ⟨hBN_3, hN_2⟩ := hP_kTN_M y (hyM)
        have hly := hZy.2.1.1
        rcases tl with ⟨s2, y2, u2, l2, r2⟩ | _
        · -- inner
          have hly : lf y = some y2 := hly
          refine lv_aload_n hx hb dJ28_getFirstEntry_9 rfl (lv_at hl 1 rfl) ?_
          refine kx_get (v := va_rf (lf y)) (C := RJ29) (T := TJ29) (N := 6) hx hb hts in_J29 hown hK hN_2 rfl 2 (by decide) q853 (fun _ h9 => h9) rfl dJ28_getFirstEntry_10 ?_
          refine kx_eqq hx hb (b := y2) (hly) ?_
          refine lv_ifnull hx hb dJ28_getFirstEntry_13 ?_
          refine lv_aload_n hx hb dJ28_getFirstEntry_16 rfl (lv_at hl 1 rfl) ?_
          refine kx_get (v := va_rf (lf y)) (C := RJ29) (T := TJ29) (N := 6) hx hb hts in_J29 hown hK hN_2 rfl 2 (by decide) q853 (fun _ h9 => h9) rfl dJ28_getFirstEntry_17 ?_
          refine kx_eqq hx hb (b := y2) (hly) ?_
          refine lv_astore_n (lv' := [(1, .ref y2), (0, .ref mp)]) hx hb dJ28_getFirstEntry_20 rfl hl (by decide) rfl (fun ls hl => ?_)
          refine lv_goto (tgt := 9) hx hb dJ28_getFirstEntry_21 (by decide) ?_
          exact ih_9  y2 (((true, y, tr) :: cz)) l2 r2 (hZy.dnL.nrm) (by rw [← hhy]; exact (head_app _ _ (tio_ne _ _ _)).symm) _ hS (by simp only [tio, List.length_append, List.length_cons] at hm_9 ⊢; omega) ls (lv_sub hl [1, 0] rfl)
        · -- leaf
          have hly : lf y = none := hly
          refine lv_aload_n hx hb dJ28_getFirstEntry_9 rfl (lv_at hl 1 rfl) ?_
          refine kx_get (v := va_rf (lf y)) (C := RJ29) (T := TJ29) (N := 6) hx hb hts in_J29 hown hK hN_2 rfl 2 (by decide) q853 (fun _ h9 => h9) rfl dJ28_getFirstEntry_10 ?_
          refine kx_eqqN hx hb (hly) ?_
          refine lv_ifnullN (tgt := 24) hx hb dJ28_getFirstEntry_13 (by decide) ?_
          refine lv_aload_n hx hb dJ28_getFirstEntry_24 rfl (lv_at hl 1 rfl) ?_
          exact kx_aretq hx hb hr (by first | exact Or.inl ⟨_, rfl⟩ | exact Or.inr ⟨_, rfl⟩) hlk (some y) rfl (⟨rfl, by exact hhy⟩) hS dJ28_getFirstEntry_25
    exact lp_9_x_1 ((tio (TN r0 tl0 tr0)).length + 1) r0 (([] : TC)) tl0 tr0 (hZ) (hhd) _ hS (Nat.lt_succ_self _) ls (lv_sub hl [1, 0] rfl)
  · -- none
    have hro : ro = none := hZ.2.2.2.1
    refine lv_aload_n hx hb dJ28_getFirstEntry_0 rfl (lv_at hl 0 rfl) ?_
    refine kx_get (v := va_rf (ro)) (C := RJ28) (T := TJ28) (N := 9) hx hb hts in_J28 hown hK hO_mp rfl 3 (by decide) q543 (fun _ h9 => h9) rfl dJ28_getFirstEntry_1 ?_
    refine kx_eqqN hx hb (hro) ?_
    refine lv_astore_nN (lv' := [(1, .null), (0, .ref mp)]) hx hb dJ28_getFirstEntry_4 rfl hl (by decide) rfl (fun ls hl => ?_)
    refine lv_aload_nN hx hb dJ28_getFirstEntry_5 rfl (lv_at hl 0 rfl) ?_
    refine lv_ifnullN (tgt := 24) hx hb dJ28_getFirstEntry_6 (by decide) ?_
    refine lv_aload_nN hx hb dJ28_getFirstEntry_24 rfl (lv_at hl 0 rfl) ?_
    exact kx_aretq hx hb hr (by first | exact Or.inl ⟨_, rfl⟩ | exact Or.inr ⟨_, rfl⟩) hlk (none) rfl (⟨rfl, by exact hhd⟩) hS dJ28_getFirstEntry_25

set_option maxHeartbeats 4000000 in
set_option maxRecDepth 100000 in
theorem m_J28_successor (l : Launch) (D : kG) (H : Heap) (mp : Nat) (ro : Option Nat) (sz : Nat) (mc : Int) (ks : Option Nat) (M : List Nat) (kf : Nat → Nat) (vf : Nat → Nat) (lf : Nat → Option Nat) (rt : Nat → Option Nat) (pr : Nat → Option Nat) (co : Nat → Bool) (t : TT) (a : Nat) (pre : List Nat) (post : List Nat) (hP_kTN_M : kTN D H M kf vf lf rt pr co) (hZ : ZI lf rt pr ro [] t M) (hsp : tio t = pre ++ a :: post) : Met l yJ28_successor (ws_ yJ28_successor cJ28_successor 3 (some (.object "java/util/TreeMap$Entry"))) ({ frames := 0, cells := 0, slots := 0, locals := 0 } : Room) (kPre D H [.ref a]) (kQq (fun (r : Option Nat) H' => H' = H ∧ r = post.head?) kNO) (0) (0) (kNO) := by
  refine Met.ofW (cc := cJ28_successor) (maxL := 3) (ret := (some (.object "java/util/TreeMap$Entry"))) (by decide) rfl ?_
  intro p e s m args below meth c s₁ B hml hv
  obtain ⟨rfl, hH, hK⟩ := hv
  subst hH
  have hx := B.exec
  have hb := B.bytes
  have hr := B.returns
  have hts := atoms_spec (ws := ws_ yJ28_successor cJ28_successor 3 (some (.object "java/util/TreeMap$Entry"))) B.pre
  have hts : ∀ w ∈ lw_all, w.before _ s = true := fun w h => hts w (List.mem_cons_of_mem _ h)
  have hown : s.vm.findClass RJ28 = some m.cls := findClass_of_methodNamed B.named
  have hlk := B.notSynchronized
  have hS : va_S kNO s.heap s.heap [] := va_S.rf
  have hB : ∀ q, kNO q → kBase D ≤ q := fun _ h => h.elim
  have hl := lv_entry ([.ref a]) (n := 3) (Nat.le_of_ble_eq_true rfl)
  rw [lg_entry_eq]
  generalize (lg_sl ([.ref a]) ++ List.replicate (3 - (lg_sl ([.ref a])).length) Slot.unset).toArray = ls at hl ⊢
  have hl : lv_has ls 3 [(0, .ref a)] := hl
  obtain ⟨c1, l1, r1, hZ1, hio1⟩ := ZI.at hZ (a := a) (by rw [hsp]; simp)
  have hio1 : tio (tpl c1 (TN a l1 r1)) = tio t := hio1
  have hpost := hZ1.post hio1 hsp hZ.2.2.1.1
  have haM : a ∈ M := hZ1.memT (by simp [tio])
  obtain ⟨hBN_2, hN_1⟩ := hP_kTN_M a (haM)
  obtain ⟨-, hra, hpa, -⟩ := hZ1.2.1
  obtain ⟨HD, hHD⟩ : ∃ z, z = post.head? := ⟨_, rfl⟩
  rcases r1 with ⟨s1, y1, u1, ll, rr⟩ | _
  · -- right
    have hra : rt a = some y1 := hra
    refine lv_aload_n hx hb dJ28_successor_0 rfl (lv_at hl 0 rfl) ?_
    refine lv_ifnonnull (tgt := 6) hx hb dJ28_successor_1 (by decide) ?_
    refine lv_aload_n hx hb dJ28_successor_6 rfl (lv_at hl 0 rfl) ?_
    refine kx_get (v := va_rf (rt a)) (C := RJ29) (T := TJ29) (N := 6) hx hb hts in_J29 hown hK hN_1 rfl 3 (by decide) q854 (fun _ h9 => h9) rfl dJ28_successor_7 ?_
    refine kx_eqq hx hb (b := y1) (hra) ?_
    refine lv_ifnull hx hb dJ28_successor_10 ?_
    refine lv_aload_n hx hb dJ28_successor_13 rfl (lv_at hl 0 rfl) ?_
    refine kx_get (v := va_rf (rt a)) (C := RJ29) (T := TJ29) (N := 6) hx hb hts in_J29 hown hK hN_1 rfl 3 (by decide) q854 (fun _ h9 => h9) rfl dJ28_successor_14 ?_
    refine kx_eqq hx hb (b := y1) (hra) ?_
    refine lv_astore_n (lv' := [(1, .ref y1), (0, .ref a)]) hx hb dJ28_successor_17 rfl hl (by decide) rfl (fun ls hl => ?_)
    have lp_18_x_3 : ∀ (n_18 : Nat) (y : Nat) (cz : TC) (tl : TT) (tr : TT) (hZy : ZI lf rt pr ro cz (TN y tl tr) M) (hhy : (tio (TN y tl tr)).head? = HD) (locs : List Loc) (hS : va_S kNO s.heap s.heap locs) (hm_18 : (tio (TN y tl tr)).length < n_18) (ls : Array Slot), lv_has ls 3 [(0, .ref a), (1, .ref y)] → W p l e (headSpec (ws_ yJ28_successor cJ28_successor 3 (some (.object "java/util/TreeMap$Entry"))) ({ frames := 0, cells := 0, slots := 0, locals := 0 } : Room)).room s m ([.ref a] : List Value).toArray below meth c s.heap locs (0) (0) (MQ below (kQq (fun (r : Option Nat) H' => H' = s.heap ∧ r = post.head?) kNO) ([.ref a] : List Value).toArray s (0) (0) (kNO)) (F0 m 18 ls []) := by
      intro n_18
      induction n_18 with
      | zero => intro y cz tl tr hZy hhy locs hS hm_18; exact absurd hm_18 (Nat.not_lt_zero _)
      | succ n_18 ih_18 =>
        intro y cz tl tr hZy hhy locs hS hm_18 ls hl
        have hyM : y ∈ M := hZy.memT (by simp [tio])
        obtain ⟨hBN_5, hN_4⟩ := hP_kTN_M y (hyM)
        have hly := hZy.2.1.1
        rcases tl with ⟨s2, y2, u2, l2, r2⟩ | _
        · -- inner
          have hly : lf y = some y2 := hly
          refine lv_aload_n hx hb dJ28_successor_18 rfl (lv_at hl 1 rfl) ?_
          refine kx_get (v := va_rf (lf y)) (C := RJ29) (T := TJ29) (N := 6) hx hb hts in_J29 hown hK hN_4 rfl 2 (by decide) q853 (fun _ h9 => h9) rfl dJ28_successor_19 ?_
          refine kx_eqq hx hb (b := y2) (hly) ?_
          refine lv_ifnull hx hb dJ28_successor_22 ?_
          refine lv_aload_n hx hb dJ28_successor_25 rfl (lv_at hl 1 rfl) ?_
          refine kx_get (v := va_rf (lf y)) (C := RJ29) (T := TJ29) (N := 6) hx hb hts in_J29 hown hK hN_4 rfl 2 (by decide) q853 (fun _ h9 => h9) rfl dJ28_successor_26 ?_
          refine kx_eqq hx hb (b := y2) (hly) ?_
          refine lv_astore_n (lv' := [(1, .ref y2), (0, .ref a)]) hx hb dJ28_successor_29 rfl hl (by decide) rfl (fun ls hl => ?_)
          refine lv_goto (tgt := 18) hx hb dJ28_successor_30 (by decide) ?_
          exact ih_18  y2 (((true, y, tr) :: cz)) l2 r2 (hZy.dnL.nrm) (by rw [← hhy]; exact (head_app _ _ (tio_ne _ _ _)).symm) _ hS (by simp only [tio, List.length_append, List.length_cons] at hm_18 ⊢; omega) ls (lv_sub hl [1, 0] rfl)
        · -- leaf
          have hly : lf y = none := hly
          refine lv_aload_n hx hb dJ28_successor_18 rfl (lv_at hl 1 rfl) ?_
          refine kx_get (v := va_rf (lf y)) (C := RJ29) (T := TJ29) (N := 6) hx hb hts in_J29 hown hK hN_4 rfl 2 (by decide) q853 (fun _ h9 => h9) rfl dJ28_successor_19 ?_
          refine kx_eqqN hx hb (hly) ?_
          refine lv_ifnullN (tgt := 33) hx hb dJ28_successor_22 (by decide) ?_
          refine lv_aload_n hx hb dJ28_successor_33 rfl (lv_at hl 1 rfl) ?_
          exact kx_aretq hx hb hr (by first | exact Or.inl ⟨_, rfl⟩ | exact Or.inr ⟨_, rfl⟩) hlk (some y) rfl (⟨rfl, by exact hhy.trans hHD⟩) hS dJ28_successor_34
    exact lp_18_x_3 ((tio (TN y1 ll rr)).length + 1) y1 (((false, a, l1) :: c1)) ll rr (hZ1.dnR.nrm) (by rw [hHD, hpost]; exact (head_app _ _ (tio_ne _ _ _)).symm) _ hS (Nat.lt_succ_self _) ls (lv_sub hl [1, 0] rfl)
  · -- no right
    have hra : rt a = none := hra
    have hpost : post = taf c1 := hpost
    refine lv_aload_n hx hb dJ28_successor_0 rfl (lv_at hl 0 rfl) ?_
    refine lv_ifnonnull (tgt := 6) hx hb dJ28_successor_1 (by decide) ?_
    refine lv_aload_n hx hb dJ28_successor_6 rfl (lv_at hl 0 rfl) ?_
    refine kx_get (v := va_rf (rt a)) (C := RJ29) (T := TJ29) (N := 6) hx hb hts in_J29 hown hK hN_1 rfl 3 (by decide) q854 (fun _ h9 => h9) rfl dJ28_successor_7 ?_
    refine kx_eqqN hx hb (hra) ?_
    refine lv_ifnullN (tgt := 35) hx hb dJ28_successor_10 (by decide) ?_
    refine lv_aload_n hx hb dJ28_successor_35 rfl (lv_at hl 0 rfl) ?_
    refine kx_get (v := va_rf (pr a)) (C := RJ29) (T := TJ29) (N := 6) hx hb hts in_J29 hown hK hN_1 rfl 4 (by decide) q856 (fun _ h9 => h9) rfl dJ28_successor_36 ?_
    refine kx_astoreq_n (lv' := [(1, va_rf (pr a)), (0, .ref a)]) hx hb dJ28_successor_39 rfl hl (by decide) rfl (fun ls hl => ?_)
    refine lv_aload_n hx hb dJ28_successor_40 rfl (lv_at hl 1 rfl) ?_
    refine lv_astore_n (lv' := [(2, .ref a), (1, va_rf (pr a)), (0, .ref a)]) hx hb dJ28_successor_41 rfl hl (by decide) (by generalize pr a = z9; cases z9 <;> rfl) (fun ls hl => ?_)
    have lp_42_x_6 : ∀ (n_42 : Nat) (ch : Nat) (pp : Option Nat) (cz : TC) (tl : TT) (tr : TT) (hZc : ZI lf rt pr ro cz (TN ch tl tr) M) (hpp : pp = tup cz) (haf : (taf cz).head? = HD) (locs : List Loc) (hS : va_S kNO s.heap s.heap locs) (hm_42 : cz.length < n_42) (ls : Array Slot), lv_has ls 3 [(0, .ref a), (1, va_rf (pp)), (2, .ref ch)] → W p l e (headSpec (ws_ yJ28_successor cJ28_successor 3 (some (.object "java/util/TreeMap$Entry"))) ({ frames := 0, cells := 0, slots := 0, locals := 0 } : Room)).room s m ([.ref a] : List Value).toArray below meth c s.heap locs (0) (0) (MQ below (kQq (fun (r : Option Nat) H' => H' = s.heap ∧ r = post.head?) kNO) ([.ref a] : List Value).toArray s (0) (0) (kNO)) (F0 m 42 ls []) := by
      intro n_42
      induction n_42 with
      | zero => intro ch pp cz tl tr hZc hpp haf locs hS hm_42; exact absurd hm_42 (Nat.not_lt_zero _)
      | succ n_42 ih_42 =>
        intro ch pp cz tl tr hZc hpp haf locs hS hm_42 ls hl
        rcases cz with _ | ⟨⟨b1, ng, w⟩, cz⟩
        · -- root
          have hpp : pp = none := hpp
          refine kx_aloadq_n hx hb dJ28_successor_42 rfl (lv_at hl 1 rfl) ?_
          refine kx_eqqN hx hb (hpp) ?_
          refine lv_ifnullN (tgt := 64) hx hb dJ28_successor_43 (by decide) ?_
          refine kx_aloadq_n hx hb dJ28_successor_64 rfl (lv_at hl 1 rfl) ?_
          refine kx_eqqN hx hb (hpp) ?_
          exact kx_aretq hx hb hr (by first | exact Or.inl ⟨_, rfl⟩ | exact Or.inr ⟨_, rfl⟩) hlk (none) rfl (⟨rfl, by exact haf.trans hHD⟩) hS dJ28_successor_65
        · -- up
          have hpp : pp = some ng := hpp
          have ngM : ng ∈ M := hZc.memC (by simp [tca])
          obtain ⟨⟨hb1, hp1, -, -⟩, -, hn1, -⟩ := id hZc
          have chw : ch ∉ tio w := fun z => hn1.2.1 ch (by simp [tio]) (by simp [tca, z])
          obtain ⟨hBN_8, hN_7⟩ := hP_kTN_M ng (ngM)
          rcases b1 with _ | _
          · -- right
            have hgr : rt ng = some ch := hb1.2
            refine kx_aloadq_n hx hb dJ28_successor_42 rfl (lv_at hl 1 rfl) ?_
            refine kx_eqq hx hb (b := ng) (hpp) ?_
            refine lv_ifnull hx hb dJ28_successor_43 ?_
            refine lv_aload_n hx hb dJ28_successor_46 rfl (lv_at hl 2 rfl) ?_
            refine kx_aloadq_n hx hb dJ28_successor_47 rfl (lv_at hl 1 rfl) ?_
            refine kx_eqq hx hb (b := ng) (hpp) ?_
            refine kx_get (v := va_rf (rt ng)) (C := RJ29) (T := TJ29) (N := 6) hx hb hts in_J29 hown hK hN_7 rfl 3 (by decide) q854 (fun _ h9 => h9) rfl dJ28_successor_48 ?_
            refine kx_eqq hx hb (b := ch) (hgr) ?_
            refine lv_acmp_ne (rx := some ch) (ry := some ch) (tgt := 64) hx hb dJ28_successor_51 (by decide) (fun ca_9 => absurd (by rfl) ca_9) (fun ca_9 => ?_)
            refine kx_aloadq_n hx hb dJ28_successor_54 rfl (lv_at hl 1 rfl) ?_
            refine kx_eqq hx hb (b := ng) (hpp) ?_
            refine lv_astore_n (lv' := [(2, .ref ng), (0, .ref a), (1, va_rf (pp))]) hx hb dJ28_successor_55 rfl hl (by decide) (by generalize pp = z9; cases z9 <;> rfl) (fun ls hl => ?_)
            refine kx_aloadq_n hx hb dJ28_successor_56 rfl (lv_at hl 2 rfl) ?_
            refine kx_eqq hx hb (b := ng) (hpp) ?_
            refine kx_get (v := va_rf (pr ng)) (C := RJ29) (T := TJ29) (N := 6) hx hb hts in_J29 hown hK hN_7 rfl 4 (by decide) q856 (fun _ h9 => h9) rfl dJ28_successor_57 ?_
            refine kx_astoreq_n (lv' := [(1, va_rf (pr ng)), (2, .ref ng), (0, .ref a)]) hx hb dJ28_successor_60 rfl hl (by decide) rfl (fun ls hl => ?_)
            refine lv_goto (tgt := 42) hx hb dJ28_successor_61 (by decide) ?_
            exact ih_42  ng (pr ng) cz w ((TN ch tl tr)) (hZc.up) (hp1) (haf) _ hS (by simp only [List.length_cons] at hm_42; omega) ls (lv_sub hl [2, 0, 1] rfl)
          · -- left
            have hgr : rt ng = tA w := hb1.2
            refine kx_aloadq_n hx hb dJ28_successor_42 rfl (lv_at hl 1 rfl) ?_
            refine kx_eqq hx hb (b := ng) (hpp) ?_
            refine lv_ifnull hx hb dJ28_successor_43 ?_
            refine lv_aload_n hx hb dJ28_successor_46 rfl (lv_at hl 2 rfl) ?_
            refine kx_aloadq_n hx hb dJ28_successor_47 rfl (lv_at hl 1 rfl) ?_
            refine kx_eqq hx hb (b := ng) (hpp) ?_
            refine kx_get (v := va_rf (rt ng)) (C := RJ29) (T := TJ29) (N := 6) hx hb hts in_J29 hown hK hN_7 rfl 3 (by decide) q854 (fun _ h9 => h9) rfl dJ28_successor_48 ?_
            refine lv_acmp_ne (rx := some ch) (ry := rt ng) (tgt := 64) hx hb dJ28_successor_51 (by decide) (fun ca_10 => ?_) (fun ca_10 => absurd ca_10 (by exact fun z => chw (tA_mem (hgr.symm.trans z.symm))))
            refine kx_aloadq_n hx hb dJ28_successor_64 rfl (lv_at hl 1 rfl) ?_
            refine kx_eqq hx hb (b := ng) (hpp) ?_
            exact kx_aretq hx hb hr (by first | exact Or.inl ⟨_, rfl⟩ | exact Or.inr ⟨_, rfl⟩) hlk (some ng) rfl (⟨rfl, by exact haf.trans hHD⟩) hS dJ28_successor_65
    exact lp_42_x_6 (c1.length + 1) a (pr a) c1 l1 ((.leaf : TT)) (hZ1) (hpa) (by rw [hHD, hpost]) _ hS (Nat.lt_succ_self _) ls (lv_sub hl [2, 1, 0] rfl)

set_option maxHeartbeats 4000000 in
set_option maxRecDepth 100000 in
theorem m_J32_init (l : Launch) (D : kG) (H : Heap) (it : Nat) (mp : Nat) (ro : Option Nat) (sz : Nat) (mc : Int) (ks : Option Nat) (x : Nat) (hO_it : kO D H it 18 [.null, .null, .int (kI (0)), .null]) (hO_mp : kO D H mp 15 [.null, .null, .null, va_rf (ro), .int (kI ((sz : Nat) : Int)), .int (kI (mc)), .null, va_rf (ks), .null]) (bs_it : kBase D ≤ it) (ne_it_mp : it ≠ mp) : Met l yJ32_init (ws_ yJ32_init cJ32_init 3 none) ({ frames := 1, cells := 0, slots := 0, locals := 20 } : Room) (kPre D H [.ref it, .ref mp, .ref x]) (kQv (fun H' => (kO D H' it 18 [.ref x, .null, .int (kI (mc)), .ref mp])) (fun q : Nat => q = it)) (0) (0) ((fun q : Nat => q = it)) := by
  refine Met.ofW (cc := cJ32_init) (maxL := 3) (ret := none) (by decide) rfl ?_
  intro p e s m args below meth c s₁ B hml hv
  obtain ⟨rfl, hH, hK⟩ := hv
  subst hH
  have hx := B.exec
  have hb := B.bytes
  have hr := B.returns
  have hts := atoms_spec (ws := ws_ yJ32_init cJ32_init 3 none) B.pre
  have hts : ∀ w ∈ lw_all, w.before _ s = true := fun w h => hts w (List.mem_cons_of_mem _ h)
  have hown : s.vm.findClass RJ32 = some m.cls := findClass_of_methodNamed B.named
  have hlk := B.notSynchronized
  have hin : meth.name = "<init>" := (name_of_methodNamed B.named B.method).1
  have hS : va_S (fun q : Nat => q = it) s.heap s.heap [] := va_S.rf
  have hB : ∀ q, (fun q : Nat => q = it) q → kBase D ≤ q := fun q h => by (try dsimp only at h); (try simp only [kNW] at h); have hks := hK.size; omega
  have hl := lv_entry ([.ref it, .ref mp, .ref x]) (n := 3) (Nat.le_of_ble_eq_true rfl)
  rw [lg_entry_eq]
  generalize (lg_sl ([.ref it, .ref mp, .ref x]) ++ List.replicate (3 - (lg_sl ([.ref it, .ref mp, .ref x])).length) Slot.unset).toArray = ls at hl ⊢
  have hl : lv_has ls 3 [(0, .ref it), (1, .ref mp), (2, .ref x)] := hl
  refine lv_aload_n hx hb dJ32_init_0 rfl (lv_at hl 0 rfl) ?_
  refine lv_aload_n hx hb dJ32_init_1 rfl (lv_at hl 1 rfl) ?_
  refine kx_putF (v := .ref mp) (C := RJ33) (T := TJ33) (N := 4) hx hb hts in_J33 hown hK hO_it rfl 3 (by decide) tyJ33 tyJ33_ok nmJ33 hS (by first | rfl | exact Or.inl rfl | exact Or.inr rfl | exact Or.inr (Or.inl rfl) | exact Or.inr (Or.inr rfl) | exact Or.inr (Or.inr (Or.inl rfl)) | exact Or.inr (Or.inr (Or.inr rfl)) | ((try dsimp only); (try simp only [kNW]); omega)) q958 (fun _ h9 => h9) rfl hin rfl rfl rfl rfl (Nat.le_of_ble_eq_true rfl) dJ32_init_2 (fun H_3 locs_4 hO_2 hU_1 hS_5 => ?_)
  have hO_2 : kO D H_3 it 18 [.null, .null, .int (kI (0)), .ref mp] := hO_2
  have hzu_6 := hU_1.1
  refine lv_aload_n hx hb dJ32_init_5 rfl (lv_at hl 0 rfl) ?_
  refine W.objInit hx hb hown (hts _ q954) (hts _ q133) (hts _ q134) rfl (by rw [hml]; exact hl.1) rfl dJ32_init_6 (Nat.le_of_ble_eq_true rfl) (Nat.le_of_ble_eq_true rfl) ?_
  refine W.eq (g2 := F0 m 9 ls []) rfl ?_
  refine lv_aload_n hx hb dJ32_init_9 rfl (lv_at hl 0 rfl) ?_
  refine lv_aload_n hx hb dJ32_init_10 rfl (lv_at hl 1 rfl) ?_
  have h_7 := hO_mp.up hU_1 (by first | assumption | exact Ne.symm (by assumption)  | omega | (have h9 := hO_mp.lt; omega))
  refine kx_getN (v := .int (kI (mc))) (C := RJ28) (T := TJ28) (N := 9) hx hb hts in_J28 hown hK h_7 rfl 5 (by decide) (hK.w q546 rfl) (fun _ h9 => h9) rfl dJ32_init_11 ?_
  refine kx_put (v := .int (kI (mc))) (C := RJ33) (T := TJ33) (N := 4) hx hb hts in_J33 hown hK hO_2 rfl 2 (by decide) tyJ33 tyJ33_ok nmJ33 hS_5 (by first | rfl | exact Or.inl rfl | exact Or.inr rfl | exact Or.inr (Or.inl rfl) | exact Or.inr (Or.inr rfl) | exact Or.inr (Or.inr (Or.inl rfl)) | exact Or.inr (Or.inr (Or.inr rfl)) | ((try dsimp only); (try simp only [kNW]); omega)) q957 (fun _ h9 => h9) rfl rfl rfl rfl (Nat.le_of_ble_eq_true rfl) dJ32_init_14 (fun H_10 locs_11 hO_9 hU_8 hS_12 => ?_)
  have hO_9 : kO D H_10 it 18 [.null, .null, .int (kI (mc)), .ref mp] := hO_9
  have hzu_13 := hU_8.1
  refine lv_aload_n hx hb dJ32_init_17 rfl (lv_at hl 0 rfl) ?_
  refine lv_null hx hb dJ32_init_18 ?_
  refine kx_put (v := .null) (C := RJ33) (T := TJ33) (N := 4) hx hb hts in_J33 hown hK hO_9 rfl 1 (by decide) tyJ33 tyJ33_ok nmJ33 hS_12 (by first | rfl | exact Or.inl rfl | exact Or.inr rfl | exact Or.inr (Or.inl rfl) | exact Or.inr (Or.inr rfl) | exact Or.inr (Or.inr (Or.inl rfl)) | exact Or.inr (Or.inr (Or.inr rfl)) | ((try dsimp only); (try simp only [kNW]); omega)) q956 (fun _ h9 => h9) rfl rfl rfl rfl (Nat.le_of_ble_eq_true rfl) dJ32_init_19 (fun H_16 locs_17 hO_15 hU_14 hS_18 => ?_)
  have hO_15 : kO D H_16 it 18 [.null, .null, .int (kI (mc)), .ref mp] := hO_15
  have hzu_19 := hU_14.1
  refine lv_aload_n hx hb dJ32_init_22 rfl (lv_at hl 0 rfl) ?_
  refine lv_aload_n hx hb dJ32_init_23 rfl (lv_at hl 2 rfl) ?_
  refine kx_put (v := .ref x) (C := RJ33) (T := TJ33) (N := 4) hx hb hts in_J33 hown hK hO_15 rfl 0 (by decide) tyJ33 tyJ33_ok nmJ33 hS_18 (by first | rfl | exact Or.inl rfl | exact Or.inr rfl | exact Or.inr (Or.inl rfl) | exact Or.inr (Or.inr rfl) | exact Or.inr (Or.inr (Or.inl rfl)) | exact Or.inr (Or.inr (Or.inr rfl)) | ((try dsimp only); (try simp only [kNW]); omega)) q955 (fun _ h9 => h9) rfl rfl rfl rfl (Nat.le_of_ble_eq_true rfl) dJ32_init_24 (fun H_22 locs_23 hO_21 hU_20 hS_24 => ?_)
  have hO_21 : kO D H_22 it 18 [.ref x, .null, .int (kI (mc)), .ref mp] := hO_21
  have hzu_25 := hU_20.1
  exact kx_vret hx hb hr hlk (hO_21) hS_24 dJ32_init_27

set_option maxHeartbeats 4000000 in
set_option maxRecDepth 100000 in
theorem m_J33_init (l : Launch) (D : kG) (H : Heap) (it : Nat) (mp : Nat) (ro : Option Nat) (sz : Nat) (mc : Int) (ks : Option Nat) (x : Nat) (hO_it : kO D H it 18 [.null, .null, .int (kI (0)), .null]) (hO_mp : kO D H mp 15 [.null, .null, .null, va_rf (ro), .int (kI ((sz : Nat) : Int)), .int (kI (mc)), .null, va_rf (ks), .null]) (bs_it : kBase D ≤ it) (ne_it_mp : it ≠ mp) : Met l yJ33_init (ws_ yJ33_init cJ33_init 3 none) ({ frames := 2, cells := 0, slots := 0, locals := 42 } : Room) (kPre D H [.ref it, .ref mp, .ref x]) (kQv (fun H' => (kO D H' it 18 [.ref x, .null, .int (kI (mc)), .ref mp])) (fun q : Nat => q = it)) (0) (0) ((fun q : Nat => q = it)) := by
  refine Met.ofW (cc := cJ33_init) (maxL := 3) (ret := none) (by decide) rfl ?_
  intro p e s m args below meth c s₁ B hml hv
  obtain ⟨rfl, hH, hK⟩ := hv
  subst hH
  have hx := B.exec
  have hb := B.bytes
  have hr := B.returns
  have hts := atoms_spec (ws := ws_ yJ33_init cJ33_init 3 none) B.pre
  have hts : ∀ w ∈ lw_all, w.before _ s = true := fun w h => hts w (List.mem_cons_of_mem _ h)
  have hown : s.vm.findClass RJ33 = some m.cls := findClass_of_methodNamed B.named
  have hlk := B.notSynchronized
  have hin : meth.name = "<init>" := (name_of_methodNamed B.named B.method).1
  have hS : va_S (fun q : Nat => q = it) s.heap s.heap [] := va_S.rf
  have hB : ∀ q, (fun q : Nat => q = it) q → kBase D ≤ q := fun q h => by (try dsimp only at h); (try simp only [kNW] at h); have hks := hK.size; omega
  have hl := lv_entry ([.ref it, .ref mp, .ref x]) (n := 3) (Nat.le_of_ble_eq_true rfl)
  rw [lg_entry_eq]
  generalize (lg_sl ([.ref it, .ref mp, .ref x]) ++ List.replicate (3 - (lg_sl ([.ref it, .ref mp, .ref x])).length) Slot.unset).toArray = ls at hl ⊢
  have hl : lv_has ls 3 [(0, .ref it), (1, .ref mp), (2, .ref x)] := hl
  refine lv_aload_n hx hb dJ33_init_0 rfl (lv_at hl 0 rfl) ?_
  refine lv_aload_n hx hb dJ33_init_1 rfl (lv_at hl 1 rfl) ?_
  refine lv_aload_n hx hb dJ33_init_2 rfl (lv_at hl 2 rfl) ?_
  refine kx_cv (va_runI (As := [.ref mp, .ref x]) (rest := []) ⟨hx, hb, hml, hown, hts⟩ (m_J32_init l D s.heap it mp ro sz mc ks x hO_it hO_mp (by first | assumption | omega) (by first | assumption | omega)) (cwI 2 hts (lw_meth q953) rfl rfl rfl (hts _ q122) (hts _ q951) (hts _ q952) rfl (by decide +kernel) ⟨Nat.le_of_ble_eq_true rfl, Nat.le_of_ble_eq_true rfl⟩) (kx_ps hK hS hB) rfl rfl hl.1 rfl (lv_room (Nat.le_of_ble_eq_true rfl)) dJ33_init_3 ⟨by first | exact Nat.le_of_ble_eq_true rfl | omega | (show _ ≤ _; omega) | (dsimp only [headSpec]; omega), by first | exact Nat.le_of_ble_eq_true rfl | omega | (show _ ≤ _; omega) | (dsimp only [headSpec]; omega)⟩) hS (fun q _ h => by (try dsimp only at h); (try dsimp only); (try simp only [kNW] at h); (try simp only [kNW]); omega) (fun q h => by (try dsimp only at h); (try dsimp only); (try simp only [kNW] at h); (try simp only [kNW]); omega) (fun H_4 locs_1 hz_3 hF_5 hS_2 => ?_)
  have hzf_7 := hF_5.1
  refine W.widen (k := 0) (n := 0) (Nat.le_of_ble_eq_true rfl) (Nat.le_of_ble_eq_true rfl) ?_
  have ho_8 := hz_3
  exact kx_vret hx hb hr hlk (ho_8) hS_2 dJ33_init_6

set_option maxHeartbeats 4000000 in
set_option maxRecDepth 100000 in
theorem m_J32_init_n (l : Launch) (D : kG) (H : Heap) (it : Nat) (mp : Nat) (ro : Option Nat) (sz : Nat) (mc : Int) (ks : Option Nat) (hO_it : kO D H it 18 [.null, .null, .int (kI (0)), .null]) (hO_mp : kO D H mp 15 [.null, .null, .null, va_rf (ro), .int (kI ((sz : Nat) : Int)), .int (kI (mc)), .null, va_rf (ks), .null]) (bs_it : kBase D ≤ it) (ne_it_mp : it ≠ mp) : Met l yJ32_init (ws_ yJ32_init cJ32_init 3 none) ({ frames := 1, cells := 0, slots := 0, locals := 20 } : Room) (kPre D H [.ref it, .ref mp, .null]) (kQv (fun H' => (kO D H' it 18 [.null, .null, .int (kI (mc)), .ref mp])) (fun q : Nat => q = it)) (0) (0) ((fun q : Nat => q = it)) := by
  refine Met.ofW (cc := cJ32_init) (maxL := 3) (ret := none) (by decide) rfl ?_
  intro p e s m args below meth c s₁ B hml hv
  obtain ⟨rfl, hH, hK⟩ := hv
  subst hH
  have hx := B.exec
  have hb := B.bytes
  have hr := B.returns
  have hts := atoms_spec (ws := ws_ yJ32_init cJ32_init 3 none) B.pre
  have hts : ∀ w ∈ lw_all, w.before _ s = true := fun w h => hts w (List.mem_cons_of_mem _ h)
  have hown : s.vm.findClass RJ32 = some m.cls := findClass_of_methodNamed B.named
  have hlk := B.notSynchronized
  have hin : meth.name = "<init>" := (name_of_methodNamed B.named B.method).1
  have hS : va_S (fun q : Nat => q = it) s.heap s.heap [] := va_S.rf
  have hB : ∀ q, (fun q : Nat => q = it) q → kBase D ≤ q := fun q h => by (try dsimp only at h); (try simp only [kNW] at h); have hks := hK.size; omega
  have hl := lv_entry ([.ref it, .ref mp, .null]) (n := 3) (Nat.le_of_ble_eq_true rfl)
  rw [lg_entry_eq]
  generalize (lg_sl ([.ref it, .ref mp, .null]) ++ List.replicate (3 - (lg_sl ([.ref it, .ref mp, .null])).length) Slot.unset).toArray = ls at hl ⊢
  have hl : lv_has ls 3 [(0, .ref it), (1, .ref mp), (2, .null)] := hl
  refine lv_aload_n hx hb dJ32_init_0 rfl (lv_at hl 0 rfl) ?_
  refine lv_aload_n hx hb dJ32_init_1 rfl (lv_at hl 1 rfl) ?_
  refine kx_putF (v := .ref mp) (C := RJ33) (T := TJ33) (N := 4) hx hb hts in_J33 hown hK hO_it rfl 3 (by decide) tyJ33 tyJ33_ok nmJ33 hS (by first | rfl | exact Or.inl rfl | exact Or.inr rfl | exact Or.inr (Or.inl rfl) | exact Or.inr (Or.inr rfl) | exact Or.inr (Or.inr (Or.inl rfl)) | exact Or.inr (Or.inr (Or.inr rfl)) | ((try dsimp only); (try simp only [kNW]); omega)) q958 (fun _ h9 => h9) rfl hin rfl rfl rfl rfl (Nat.le_of_ble_eq_true rfl) dJ32_init_2 (fun H_3 locs_4 hO_2 hU_1 hS_5 => ?_)
  have hO_2 : kO D H_3 it 18 [.null, .null, .int (kI (0)), .ref mp] := hO_2
  have hzu_6 := hU_1.1
  refine lv_aload_n hx hb dJ32_init_5 rfl (lv_at hl 0 rfl) ?_
  refine W.objInit hx hb hown (hts _ q954) (hts _ q133) (hts _ q134) rfl (by rw [hml]; exact hl.1) rfl dJ32_init_6 (Nat.le_of_ble_eq_true rfl) (Nat.le_of_ble_eq_true rfl) ?_
  refine W.eq (g2 := F0 m 9 ls []) rfl ?_
  refine lv_aload_n hx hb dJ32_init_9 rfl (lv_at hl 0 rfl) ?_
  refine lv_aload_n hx hb dJ32_init_10 rfl (lv_at hl 1 rfl) ?_
  have h_7 := hO_mp.up hU_1 (by first | assumption | exact Ne.symm (by assumption)  | omega | (have h9 := hO_mp.lt; omega))
  refine kx_getN (v := .int (kI (mc))) (C := RJ28) (T := TJ28) (N := 9) hx hb hts in_J28 hown hK h_7 rfl 5 (by decide) (hK.w q546 rfl) (fun _ h9 => h9) rfl dJ32_init_11 ?_
  refine kx_put (v := .int (kI (mc))) (C := RJ33) (T := TJ33) (N := 4) hx hb hts in_J33 hown hK hO_2 rfl 2 (by decide) tyJ33 tyJ33_ok nmJ33 hS_5 (by first | rfl | exact Or.inl rfl | exact Or.inr rfl | exact Or.inr (Or.inl rfl) | exact Or.inr (Or.inr rfl) | exact Or.inr (Or.inr (Or.inl rfl)) | exact Or.inr (Or.inr (Or.inr rfl)) | ((try dsimp only); (try simp only [kNW]); omega)) q957 (fun _ h9 => h9) rfl rfl rfl rfl (Nat.le_of_ble_eq_true rfl) dJ32_init_14 (fun H_10 locs_11 hO_9 hU_8 hS_12 => ?_)
  have hO_9 : kO D H_10 it 18 [.null, .null, .int (kI (mc)), .ref mp] := hO_9
  have hzu_13 := hU_8.1
  refine lv_aload_n hx hb dJ32_init_17 rfl (lv_at hl 0 rfl) ?_
  refine lv_null hx hb dJ32_init_18 ?_
  refine kx_put (v := .null) (C := RJ33) (T := TJ33) (N := 4) hx hb hts in_J33 hown hK hO_9 rfl 1 (by decide) tyJ33 tyJ33_ok nmJ33 hS_12 (by first | rfl | exact Or.inl rfl | exact Or.inr rfl | exact Or.inr (Or.inl rfl) | exact Or.inr (Or.inr rfl) | exact Or.inr (Or.inr (Or.inl rfl)) | exact Or.inr (Or.inr (Or.inr rfl)) | ((try dsimp only); (try simp only [kNW]); omega)) q956 (fun _ h9 => h9) rfl rfl rfl rfl (Nat.le_of_ble_eq_true rfl) dJ32_init_19 (fun H_16 locs_17 hO_15 hU_14 hS_18 => ?_)
  have hO_15 : kO D H_16 it 18 [.null, .null, .int (kI (mc)), .ref mp] := hO_15
  have hzu_19 := hU_14.1
  refine lv_aload_n hx hb dJ32_init_22 rfl (lv_at hl 0 rfl) ?_
  refine lv_aload_nN hx hb dJ32_init_23 rfl (lv_at hl 2 rfl) ?_
  refine kx_put (v := .null) (C := RJ33) (T := TJ33) (N := 4) hx hb hts in_J33 hown hK hO_15 rfl 0 (by decide) tyJ33 tyJ33_ok nmJ33 hS_18 (by first | rfl | exact Or.inl rfl | exact Or.inr rfl | exact Or.inr (Or.inl rfl) | exact Or.inr (Or.inr rfl) | exact Or.inr (Or.inr (Or.inl rfl)) | exact Or.inr (Or.inr (Or.inr rfl)) | ((try dsimp only); (try simp only [kNW]); omega)) q955 (fun _ h9 => h9) rfl rfl rfl rfl (Nat.le_of_ble_eq_true rfl) dJ32_init_24 (fun H_22 locs_23 hO_21 hU_20 hS_24 => ?_)
  have hO_21 : kO D H_22 it 18 [.null, .null, .int (kI (mc)), .ref mp] := hO_21
  have hzu_25 := hU_20.1
  exact kx_vret hx hb hr hlk (hO_21) hS_24 dJ32_init_27

set_option maxHeartbeats 4000000 in
set_option maxRecDepth 100000 in
theorem m_J33_init_n (l : Launch) (D : kG) (H : Heap) (it : Nat) (mp : Nat) (ro : Option Nat) (sz : Nat) (mc : Int) (ks : Option Nat) (hO_it : kO D H it 18 [.null, .null, .int (kI (0)), .null]) (hO_mp : kO D H mp 15 [.null, .null, .null, va_rf (ro), .int (kI ((sz : Nat) : Int)), .int (kI (mc)), .null, va_rf (ks), .null]) (bs_it : kBase D ≤ it) (ne_it_mp : it ≠ mp) : Met l yJ33_init (ws_ yJ33_init cJ33_init 3 none) ({ frames := 2, cells := 0, slots := 0, locals := 42 } : Room) (kPre D H [.ref it, .ref mp, .null]) (kQv (fun H' => (kO D H' it 18 [.null, .null, .int (kI (mc)), .ref mp])) (fun q : Nat => q = it)) (0) (0) ((fun q : Nat => q = it)) := by
  refine Met.ofW (cc := cJ33_init) (maxL := 3) (ret := none) (by decide) rfl ?_
  intro p e s m args below meth c s₁ B hml hv
  obtain ⟨rfl, hH, hK⟩ := hv
  subst hH
  have hx := B.exec
  have hb := B.bytes
  have hr := B.returns
  have hts := atoms_spec (ws := ws_ yJ33_init cJ33_init 3 none) B.pre
  have hts : ∀ w ∈ lw_all, w.before _ s = true := fun w h => hts w (List.mem_cons_of_mem _ h)
  have hown : s.vm.findClass RJ33 = some m.cls := findClass_of_methodNamed B.named
  have hlk := B.notSynchronized
  have hin : meth.name = "<init>" := (name_of_methodNamed B.named B.method).1
  have hS : va_S (fun q : Nat => q = it) s.heap s.heap [] := va_S.rf
  have hB : ∀ q, (fun q : Nat => q = it) q → kBase D ≤ q := fun q h => by (try dsimp only at h); (try simp only [kNW] at h); have hks := hK.size; omega
  have hl := lv_entry ([.ref it, .ref mp, .null]) (n := 3) (Nat.le_of_ble_eq_true rfl)
  rw [lg_entry_eq]
  generalize (lg_sl ([.ref it, .ref mp, .null]) ++ List.replicate (3 - (lg_sl ([.ref it, .ref mp, .null])).length) Slot.unset).toArray = ls at hl ⊢
  have hl : lv_has ls 3 [(0, .ref it), (1, .ref mp), (2, .null)] := hl
  refine lv_aload_n hx hb dJ33_init_0 rfl (lv_at hl 0 rfl) ?_
  refine lv_aload_n hx hb dJ33_init_1 rfl (lv_at hl 1 rfl) ?_
  refine lv_aload_nN hx hb dJ33_init_2 rfl (lv_at hl 2 rfl) ?_
  refine kx_cv (va_runI (As := [.ref mp, .null]) (rest := []) ⟨hx, hb, hml, hown, hts⟩ (m_J32_init_n l D s.heap it mp ro sz mc ks hO_it hO_mp (by first | assumption | omega) (by first | assumption | omega)) (cwI 2 hts (lw_meth q953) rfl rfl rfl (hts _ q122) (hts _ q951) (hts _ q952) rfl (by decide +kernel) ⟨Nat.le_of_ble_eq_true rfl, Nat.le_of_ble_eq_true rfl⟩) (kx_ps hK hS hB) rfl rfl hl.1 rfl (lv_room (Nat.le_of_ble_eq_true rfl)) dJ33_init_3 ⟨by first | exact Nat.le_of_ble_eq_true rfl | omega | (show _ ≤ _; omega) | (dsimp only [headSpec]; omega), by first | exact Nat.le_of_ble_eq_true rfl | omega | (show _ ≤ _; omega) | (dsimp only [headSpec]; omega)⟩) hS (fun q _ h => by (try dsimp only at h); (try dsimp only); (try simp only [kNW] at h); (try simp only [kNW]); omega) (fun q h => by (try dsimp only at h); (try dsimp only); (try simp only [kNW] at h); (try simp only [kNW]); omega) (fun H_4 locs_1 hz_3 hF_5 hS_2 => ?_)
  have hzf_7 := hF_5.1
  refine W.widen (k := 0) (n := 0) (Nat.le_of_ble_eq_true rfl) (Nat.le_of_ble_eq_true rfl) ?_
  have ho_8 := hz_3
  exact kx_vret hx hb hr hlk (ho_8) hS_2 dJ33_init_6

set_option maxHeartbeats 4000000 in
set_option maxRecDepth 100000 in
theorem m_J28_keyIterator (l : Launch) (D : kG) (H : Heap) (mp : Nat) (ro : Option Nat) (sz : Nat) (mc : Int) (ks : Option Nat) (M : List Nat) (kf : Nat → Nat) (vf : Nat → Nat) (lf : Nat → Option Nat) (rt : Nat → Option Nat) (pr : Nat → Option Nat) (co : Nat → Bool) (t : TT) (hO_mp : kO D H mp 15 [.null, .null, .null, va_rf (ro), .int (kI ((sz : Nat) : Int)), .int (kI (mc)), .null, va_rf (ks), .null]) (hP_kTN_M : kTN D H M kf vf lf rt pr co) (hZ : ZI lf rt pr ro [] t M) : Met l yJ28_keyIterator (ws_ yJ28_keyIterator cJ28_keyIterator 1 (some (.object "java/util/Iterator"))) ({ frames := 3, cells := 1, slots := 4, locals := 64 } : Room) (kPre D H [.ref mp]) (kQr (fun (r : Nat) H' => (kO D H' r 18 [va_rf ((tio t).head?), .null, .int (kI (mc)), .ref mp]) ∧ (H.size ≤ r)) (kNW H)) (1) (4) ((kNW H)) := by
  refine Met.ofW (cc := cJ28_keyIterator) (maxL := 1) (ret := (some (.object "java/util/Iterator"))) (by decide) rfl ?_
  intro p e s m args below meth c s₁ B hml hv
  obtain ⟨rfl, hH, hK⟩ := hv
  subst hH
  have hx := B.exec
  have hb := B.bytes
  have hr := B.returns
  have hts := atoms_spec (ws := ws_ yJ28_keyIterator cJ28_keyIterator 1 (some (.object "java/util/Iterator"))) B.pre
  have hts : ∀ w ∈ lw_all, w.before _ s = true := fun w h => hts w (List.mem_cons_of_mem _ h)
  have hown : s.vm.findClass RJ28 = some m.cls := findClass_of_methodNamed B.named
  have hlk := B.notSynchronized
  have hS : va_S (kNW s.heap) s.heap s.heap [] := va_S.rf
  have hB : ∀ q, (kNW s.heap) q → kBase D ≤ q := fun q h => Nat.le_trans hK.size h
  have hl := lv_entry ([.ref mp]) (n := 1) (Nat.le_of_ble_eq_true rfl)
  rw [lg_entry_eq]
  generalize (lg_sl ([.ref mp]) ++ List.replicate (1 - (lg_sl ([.ref mp])).length) Slot.unset).toArray = ls at hl ⊢
  have hl : lv_has ls 1 [(0, .ref mp)] := hl
  have hlt0 := hO_mp.lt
  have hks9 := hK.size
  refine kx_new (ci := 18) (fs := [.null, .null, .int (kI (0)), .null]) (C := RJ33) (T := TJ33) (N := 4) hx hb hts in_J33 hown hK tyJ33 tyJ33_ok q942 q943 q123 hS rfl (fun j hj => by rcases (show j = 0 ∨ j = 1 ∨ j = 2 ∨ j = 3 by omega) with rfl | rfl | rfl | rfl <;> rfl) (by first | exact Nat.le_of_ble_eq_true rfl | omega | (show _ ≤ _; omega) | (dsimp only [headSpec]; omega)) (by first | exact Nat.le_of_ble_eq_true rfl | omega | (show _ ≤ _; omega) | (dsimp only [headSpec]; omega)) dJ28_keyIterator_0 (fun it H_1 hq_2 hz_3 hO_4 hE_5 hS_6 => ?_)
  have hge_it : s.heap.size ≤ it := by rw [hq_2]; exact hS.1
  refine W.widen (k := 1) (n := 4) (Nat.le_of_ble_eq_true rfl) (Nat.le_of_ble_eq_true rfl) ?_
  refine lv_dup hx hb dJ28_keyIterator_3 rfl ?_
  refine lv_aload_n hx hb dJ28_keyIterator_4 rfl (lv_at hl 0 rfl) ?_
  refine lv_aload_n hx hb dJ28_keyIterator_5 rfl (lv_at hl 0 rfl) ?_
  have h_7 := hO_mp.ex hE_5
  have h_8 := hP_kTN_M.ex hE_5
  refine kx_cq0 (va_runV (As := []) (rest := [.ref mp, .ref it, .ref it]) ⟨hx, hb, hml, hown, hts⟩ (m_J28_getFirstEntry l D H_1 mp ro sz mc ks M kf vf lf rt pr co t ((tio t).head?) h_7 h_8 (by first | assumption | omega) rfl) (cwV 0 hts (lw_V q944 q945 q946 q117 q947) rfl rfl rfl (by decide +kernel) ⟨Nat.le_of_ble_eq_true rfl, Nat.le_of_ble_eq_true rfl⟩) (kx_pv hK hS_6 hB (kx_rc hK h_7 (C := RJ28) (T := TJ28) (N := 9) rfl)) rfl rfl hl.1 rfl (lv_room (Nat.le_of_ble_eq_true rfl)) dJ28_keyIterator_6 ⟨by first | exact Nat.le_of_ble_eq_true rfl | omega | (show _ ≤ _; omega) | (dsimp only [headSpec]; omega), by first | exact Nat.le_of_ble_eq_true rfl | omega | (show _ ≤ _; omega) | (dsimp only [headSpec]; omega)⟩) hS_6 (fun z_12 locs_9 hz_11 hS_10 => ?_)
  subst z_12
  rcases op_cases (((tio t).head?)) with hh9 | ⟨e0, hh9⟩
  · -- n
    refine kx_eqqN hx hb (hh9) ?_
    refine kx_cv (va_runI (As := [.ref mp, .null]) (rest := [.ref it]) ⟨hx, hb, hml, hown, hts⟩ (m_J33_init_n l D H_1 it mp ro sz mc ks hO_4 h_7 (by first | assumption | omega) (by first | assumption | omega)) (cwI 2 hts (lw_meth q950) rfl rfl rfl (hts _ q123) (hts _ q948) (hts _ q949) rfl (by decide +kernel) ⟨Nat.le_of_ble_eq_true rfl, Nat.le_of_ble_eq_true rfl⟩) (kx_ps hK hS_10 hB) rfl rfl hl.1 rfl (lv_room (Nat.le_of_ble_eq_true rfl)) dJ28_keyIterator_9 ⟨by first | exact Nat.le_of_ble_eq_true rfl | omega | (show _ ≤ _; omega) | (dsimp only [headSpec]; omega), by first | exact Nat.le_of_ble_eq_true rfl | omega | (show _ ≤ _; omega) | (dsimp only [headSpec]; omega)⟩) hS_10 (fun q _ h => by have h9 := hS_10.1; (try dsimp only at h); (try dsimp only); (try simp only [kNW] at h); (try simp only [kNW]); omega) (fun q h => by have h9 := hS_10.1; (try dsimp only at h); (try dsimp only); (try simp only [kNW] at h); (try simp only [kNW]); omega) (fun H_16 locs_13 hz_15 hF_17 hS_14 => ?_)
    have hzf_19 := hF_17.1
    refine W.widen (k := 1) (n := 4) (Nat.le_of_ble_eq_true rfl) (Nat.le_of_ble_eq_true rfl) ?_
    have ho_20 := hz_15
    have hIT9 : kO D H_16 it 18 [va_rf ((tio t).head?), .null, .int (kI mc), .ref mp] := by rw [hh9]; exact ho_20
    exact kx_aret (z := it) hx hb hr (by first | exact Or.inl ⟨_, rfl⟩ | exact Or.inr ⟨_, rfl⟩) hlk (⟨hIT9, by first | assumption | rfl | omega | grind⟩) hS_14 dJ28_keyIterator_12
  · -- s
    refine kx_eqq hx hb (b := e0) (hh9) ?_
    refine kx_cv (va_runI (As := [.ref mp, .ref e0]) (rest := [.ref it]) ⟨hx, hb, hml, hown, hts⟩ (m_J33_init l D H_1 it mp ro sz mc ks e0 hO_4 h_7 (by first | assumption | omega) (by first | assumption | omega)) (cwI 2 hts (lw_meth q950) rfl rfl rfl (hts _ q123) (hts _ q948) (hts _ q949) rfl (by decide +kernel) ⟨Nat.le_of_ble_eq_true rfl, Nat.le_of_ble_eq_true rfl⟩) (kx_ps hK hS_10 hB) rfl rfl hl.1 rfl (lv_room (Nat.le_of_ble_eq_true rfl)) dJ28_keyIterator_9 ⟨by first | exact Nat.le_of_ble_eq_true rfl | omega | (show _ ≤ _; omega) | (dsimp only [headSpec]; omega), by first | exact Nat.le_of_ble_eq_true rfl | omega | (show _ ≤ _; omega) | (dsimp only [headSpec]; omega)⟩) hS_10 (fun q _ h => by have h9 := hS_10.1; (try dsimp only at h); (try dsimp only); (try simp only [kNW] at h); (try simp only [kNW]); omega) (fun q h => by have h9 := hS_10.1; (try dsimp only at h); (try dsimp only); (try simp only [kNW] at h); (try simp only [kNW]); omega) (fun H_24 locs_21 hz_23 hF_25 hS_22 => ?_)
    have hzf_27 := hF_25.1
    refine W.widen (k := 1) (n := 4) (Nat.le_of_ble_eq_true rfl) (Nat.le_of_ble_eq_true rfl) ?_
    have ho_28 := hz_23
    have hIT9 : kO D H_24 it 18 [va_rf ((tio t).head?), .null, .int (kI mc), .ref mp] := by rw [hh9]; exact ho_28
    exact kx_aret (z := it) hx hb hr (by first | exact Or.inl ⟨_, rfl⟩ | exact Or.inr ⟨_, rfl⟩) hlk (⟨hIT9, by first | assumption | rfl | omega | grind⟩) hS_22 dJ28_keyIterator_12

set_option maxHeartbeats 4000000 in
set_option maxRecDepth 100000 in
theorem m_J31_iterator (l : Launch) (D : kG) (H : Heap) (x : Nat) (mp : Nat) (ro : Option Nat) (sz : Nat) (mc : Int) (ks : Option Nat) (M : List Nat) (kf : Nat → Nat) (vf : Nat → Nat) (lf : Nat → Option Nat) (rt : Nat → Option Nat) (pr : Nat → Option Nat) (co : Nat → Bool) (t : TT) (hO_x : kO D H x 17 [.ref mp]) (hO_mp : kO D H mp 15 [.null, .null, .null, va_rf (ro), .int (kI ((sz : Nat) : Int)), .int (kI (mc)), .null, va_rf (ks), .null]) (hP_kTN_M : kTN D H M kf vf lf rt pr co) (hZ : ZI lf rt pr ro [] t M) : Met l yJ31_iterator (ws_ yJ31_iterator cJ31_iterator 1 (some (.object "java/util/Iterator"))) ({ frames := 4, cells := 1, slots := 4, locals := 84 } : Room) (kPre D H [.ref x]) (kQr (fun (r : Nat) H' => (kO D H' r 18 [va_rf ((tio t).head?), .null, .int (kI (mc)), .ref mp]) ∧ (H.size ≤ r)) (kNW H)) (1) (4) ((kNW H)) := by
  refine Met.ofW (cc := cJ31_iterator) (maxL := 1) (ret := (some (.object "java/util/Iterator"))) (by decide) rfl ?_
  intro p e s m args below meth c s₁ B hml hv
  obtain ⟨rfl, hH, hK⟩ := hv
  subst hH
  have hx := B.exec
  have hb := B.bytes
  have hr := B.returns
  have hts := atoms_spec (ws := ws_ yJ31_iterator cJ31_iterator 1 (some (.object "java/util/Iterator"))) B.pre
  have hts : ∀ w ∈ lw_all, w.before _ s = true := fun w h => hts w (List.mem_cons_of_mem _ h)
  have hown : s.vm.findClass RJ31 = some m.cls := findClass_of_methodNamed B.named
  have hlk := B.notSynchronized
  have hS : va_S (kNW s.heap) s.heap s.heap [] := va_S.rf
  have hB : ∀ q, (kNW s.heap) q → kBase D ≤ q := fun q h => Nat.le_trans hK.size h
  have hl := lv_entry ([.ref x]) (n := 1) (Nat.le_of_ble_eq_true rfl)
  rw [lg_entry_eq]
  generalize (lg_sl ([.ref x]) ++ List.replicate (1 - (lg_sl ([.ref x])).length) Slot.unset).toArray = ls at hl ⊢
  have hl : lv_has ls 1 [(0, .ref x)] := hl
  refine lv_aload_n hx hb dJ31_iterator_0 rfl (lv_at hl 0 rfl) ?_
  refine kx_get (v := .ref mp) (C := RJ31) (T := TJ31) (N := 1) hx hb hts in_J31 hown hK hO_x rfl 0 (by decide) q923 (fun _ h9 => h9) rfl dJ31_iterator_1 ?_
  refine kx_instS hx hb hts hown q937 hK hO_mp rfl dJ31_iterator_4 ?_
  refine kx_ifz (tgt := 21) hx hb dJ31_iterator_7 (by decide) (fun c_7_1 => ?_) (fun c_7_1 => ?_)
  · -- taken at 7
    exact absurd c_7_1 (by decide)
  · -- not taken at 7
    refine lv_aload_n hx hb dJ31_iterator_10 rfl (lv_at hl 0 rfl) ?_
    refine kx_get (v := .ref mp) (C := RJ31) (T := TJ31) (N := 1) hx hb hts in_J31 hown hK hO_x rfl 0 (by decide) q923 (fun _ h9 => h9) rfl dJ31_iterator_11 ?_
    refine kx_castS hx hb hts hown q937 hK hO_mp rfl dJ31_iterator_14 ?_
    refine kx_cr (va_runV (As := []) (rest := []) ⟨hx, hb, hml, hown, hts⟩ (m_J28_keyIterator l D s.heap mp ro sz mc ks M kf vf lf rt pr co t hO_mp hP_kTN_M (by first | assumption | omega)) (cwV 0 hts (lw_V q938 q939 q940 q117 q941) rfl rfl rfl (by decide +kernel) ⟨Nat.le_of_ble_eq_true rfl, Nat.le_of_ble_eq_true rfl⟩) (kx_pv hK hS hB (kx_rc hK hO_mp (C := RJ28) (T := TJ28) (N := 9) rfl)) rfl rfl hl.1 rfl (lv_room (Nat.le_of_ble_eq_true rfl)) dJ31_iterator_17 ⟨by first | exact Nat.le_of_ble_eq_true rfl | omega | (show _ ≤ _; omega) | (dsimp only [headSpec]; omega), by first | exact Nat.le_of_ble_eq_true rfl | omega | (show _ ≤ _; omega) | (dsimp only [headSpec]; omega)⟩) hS (fun q _ h => Nat.le_trans hS.1 h) (fun q h => Nat.le_trans hS.1 h) (fun z_7 H_5 locs_2 hz_4 hF_6 hS_3 => ?_)
    have hzf_8 := hF_6.1
    have hF_6 := hF_6.nw
    refine W.widen (k := 1) (n := 4) (Nat.le_of_ble_eq_true rfl) (Nat.le_of_ble_eq_true rfl) ?_
    obtain ⟨ho_9, hnw9⟩ := hz_4
    exact kx_aret (z := z_7) hx hb hr (by first | exact Or.inl ⟨_, rfl⟩ | exact Or.inr ⟨_, rfl⟩) hlk (⟨ho_9, by first | assumption | rfl | omega | grind⟩) hS_3 dJ31_iterator_20

set_option maxHeartbeats 4000000 in
set_option maxRecDepth 100000 in
theorem m_J32_hasNext (l : Launch) (D : kG) (H : Heap) (it : Nat) (nx : Option Nat) (lr : Option Nat) (mp : Nat) (mc : Int) (hO_it : kO D H it 18 [va_rf (nx), va_rf (lr), .int (kI (mc)), .ref mp]) : Met l yJ32_hasNext (ws_ yJ32_hasNext cJ32_hasNext 1 (some .boolean)) ({ frames := 0, cells := 0, slots := 0, locals := 0 } : Room) (kPre D H [.ref it]) (kQb (fun (r : Bool) H' => H' = H ∧ r = nx.isSome) kNO) (0) (0) (kNO) := by
  refine Met.ofW (cc := cJ32_hasNext) (maxL := 1) (ret := (some .boolean)) (by decide) rfl ?_
  intro p e s m args below meth c s₁ B hml hv
  obtain ⟨rfl, hH, hK⟩ := hv
  subst hH
  have hx := B.exec
  have hb := B.bytes
  have hr := B.returns
  have hts := atoms_spec (ws := ws_ yJ32_hasNext cJ32_hasNext 1 (some .boolean)) B.pre
  have hts : ∀ w ∈ lw_all, w.before _ s = true := fun w h => hts w (List.mem_cons_of_mem _ h)
  have hown : s.vm.findClass RJ32 = some m.cls := findClass_of_methodNamed B.named
  have hlk := B.notSynchronized
  have hS : va_S kNO s.heap s.heap [] := va_S.rf
  have hB : ∀ q, kNO q → kBase D ≤ q := fun _ h => h.elim
  have hl := lv_entry ([.ref it]) (n := 1) (Nat.le_of_ble_eq_true rfl)
  rw [lg_entry_eq]
  generalize (lg_sl ([.ref it]) ++ List.replicate (1 - (lg_sl ([.ref it])).length) Slot.unset).toArray = ls at hl ⊢
  have hl : lv_has ls 1 [(0, .ref it)] := hl
  rcases op_cases (nx) with hnx9 | ⟨e0, hnx9⟩
  · -- hnx9 n
    refine lv_aload_n hx hb dJ32_hasNext_0 rfl (lv_at hl 0 rfl) ?_
    refine kx_get (v := va_rf (nx)) (C := RJ33) (T := TJ33) (N := 4) hx hb hts in_J33 hown hK hO_it rfl 0 (by decide) q955 (fun _ h9 => h9) rfl dJ32_hasNext_1 ?_
    refine kx_eqqN hx hb (hnx9) ?_
    refine lv_ifnullN (tgt := 11) hx hb dJ32_hasNext_4 (by decide) ?_
    refine kx_iconst hx hb dJ32_hasNext_11 ?_
    exact kx_zret (z := false) hx hb hr hlk (⟨rfl, by rw [hnx9]; rfl⟩) hS dJ32_hasNext_12
  · -- hnx9 s
    refine lv_aload_n hx hb dJ32_hasNext_0 rfl (lv_at hl 0 rfl) ?_
    refine kx_get (v := va_rf (nx)) (C := RJ33) (T := TJ33) (N := 4) hx hb hts in_J33 hown hK hO_it rfl 0 (by decide) q955 (fun _ h9 => h9) rfl dJ32_hasNext_1 ?_
    refine kx_eqq hx hb (b := e0) (hnx9) ?_
    refine lv_ifnull hx hb dJ32_hasNext_4 ?_
    refine kx_iconst hx hb dJ32_hasNext_7 ?_
    refine lv_goto (tgt := 12) hx hb dJ32_hasNext_8 (by decide) ?_
    exact kx_zret (z := true) hx hb hr hlk (⟨rfl, by rw [hnx9]; rfl⟩) hS dJ32_hasNext_12

set_option maxHeartbeats 4000000 in
set_option maxRecDepth 100000 in
theorem m_J32_nextEntry (l : Launch) (D : kG) (H : Heap) (it : Nat) (lr : Option Nat) (mp : Nat) (ro : Option Nat) (sz : Nat) (mc : Int) (ks : Option Nat) (M : List Nat) (kf : Nat → Nat) (vf : Nat → Nat) (lf : Nat → Option Nat) (rt : Nat → Option Nat) (pr : Nat → Option Nat) (co : Nat → Bool) (t : TT) (a : Nat) (pre : List Nat) (post : List Nat) (hO_it : kO D H it 18 [.ref a, va_rf (lr), .int (kI (mc)), .ref mp]) (hO_mp : kO D H mp 15 [.null, .null, .null, va_rf (ro), .int (kI ((sz : Nat) : Int)), .int (kI (mc)), .null, va_rf (ks), .null]) (hP_kTN_M : kTN D H M kf vf lf rt pr co) (hZ : ZI lf rt pr ro [] t M) (hsp : tio t = pre ++ a :: post) (hmc : 0 ≤ mc ∧ mc ≤ 1000) (bs_it : kBase D ≤ it) : Met l yJ32_nextEntry (ws_ yJ32_nextEntry cJ32_nextEntry 2 (some (.object "java/util/TreeMap$Entry"))) ({ frames := 1, cells := 0, slots := 0, locals := 22 } : Room) (kPre D H [.ref it]) (kQr (fun (r : Nat) H' => (r = a) ∧ (kO D H' it 18 [va_rf (post.head?), .ref a, .int (kI (mc)), .ref mp])) (fun q : Nat => q = it)) (0) (0) ((fun q : Nat => q = it)) := by
  refine Met.ofW (cc := cJ32_nextEntry) (maxL := 2) (ret := (some (.object "java/util/TreeMap$Entry"))) (by decide) rfl ?_
  intro p e s m args below meth c s₁ B hml hv
  obtain ⟨rfl, hH, hK⟩ := hv
  subst hH
  have hx := B.exec
  have hb := B.bytes
  have hr := B.returns
  have hts := atoms_spec (ws := ws_ yJ32_nextEntry cJ32_nextEntry 2 (some (.object "java/util/TreeMap$Entry"))) B.pre
  have hts : ∀ w ∈ lw_all, w.before _ s = true := fun w h => hts w (List.mem_cons_of_mem _ h)
  have hown : s.vm.findClass RJ32 = some m.cls := findClass_of_methodNamed B.named
  have hlk := B.notSynchronized
  have hS : va_S (fun q : Nat => q = it) s.heap s.heap [] := va_S.rf
  have hB : ∀ q, (fun q : Nat => q = it) q → kBase D ≤ q := fun q h => by (try dsimp only at h); (try simp only [kNW] at h); have hks := hK.size; omega
  have hl := lv_entry ([.ref it]) (n := 2) (Nat.le_of_ble_eq_true rfl)
  rw [lg_entry_eq]
  generalize (lg_sl ([.ref it]) ++ List.replicate (2 - (lg_sl ([.ref it])).length) Slot.unset).toArray = ls at hl ⊢
  have hl : lv_has ls 2 [(0, .ref it)] := hl
  refine lv_aload_n hx hb dJ32_nextEntry_0 rfl (lv_at hl 0 rfl) ?_
  refine kx_get (v := .ref a) (C := RJ33) (T := TJ33) (N := 4) hx hb hts in_J33 hown hK hO_it rfl 0 (by decide) q955 (fun _ h9 => h9) rfl dJ32_nextEntry_1 ?_
  refine lv_astore_n (lv' := [(1, .ref a), (0, .ref it)]) hx hb dJ32_nextEntry_4 rfl hl (by decide) rfl (fun ls hl => ?_)
  refine lv_aload_n hx hb dJ32_nextEntry_5 rfl (lv_at hl 0 rfl) ?_
  refine lv_ifnonnull (tgt := 17) hx hb dJ32_nextEntry_6 (by decide) ?_
  refine lv_aload_n hx hb dJ32_nextEntry_17 rfl (lv_at hl 1 rfl) ?_
  refine kx_get (v := .ref mp) (C := RJ33) (T := TJ33) (N := 4) hx hb hts in_J33 hown hK hO_it rfl 3 (by decide) q958 (fun _ h9 => h9) rfl dJ32_nextEntry_18 ?_
  refine kx_getN (v := .int (kI (mc))) (C := RJ28) (T := TJ28) (N := 9) hx hb hts in_J28 hown hK hO_mp rfl 5 (by decide) (hK.w q546 rfl) (fun _ h9 => h9) rfl dJ32_nextEntry_21 ?_
  refine lv_aload_n hx hb dJ32_nextEntry_24 rfl (lv_at hl 1 rfl) ?_
  refine kx_get (v := .int (kI (mc))) (C := RJ33) (T := TJ33) (N := 4) hx hb hts in_J33 hown hK hO_it rfl 2 (by decide) q957 (fun _ h9 => h9) rfl dJ32_nextEntry_25 ?_
  refine kx_icmp_eq (x := mc) (y := mc) (tgt := 39) hx hb dJ32_nextEntry_28 (by decide) (by omega) (by omega) (by omega) (by omega) (fun c_28_1 => ?_) (fun c_28_1 => ?_)
  · -- taken at 28
    refine lv_aload_n hx hb dJ32_nextEntry_39 rfl (lv_at hl 1 rfl) ?_
    refine lv_aload_n hx hb dJ32_nextEntry_40 rfl (lv_at hl 0 rfl) ?_
    refine kx_cq0 (va_runS (As := [.ref a]) (rest := [.ref it]) ⟨hx, hb, hml, hown, hts⟩ (m_J28_successor l D s.heap mp ro sz mc ks M kf vf lf rt pr co t a pre post hP_kTN_M hZ hsp) (va_cwS 1 hts (lw_S q997 q998 q117 q999) rfl rfl rfl (by decide +kernel) ⟨Nat.le_of_ble_eq_true rfl, Nat.le_of_ble_eq_true rfl⟩) (kx_ps hK hS hB) rfl rfl hl.1 rfl (lv_room (Nat.le_of_ble_eq_true rfl)) dJ32_nextEntry_41 ⟨by first | exact Nat.le_of_ble_eq_true rfl | omega | (show _ ≤ _; omega) | (dsimp only [headSpec]; omega), by first | exact Nat.le_of_ble_eq_true rfl | omega | (show _ ≤ _; omega) | (dsimp only [headSpec]; omega)⟩) hS (fun z_5 locs_2 hz_4 hS_3 => ?_)
    subst z_5
    refine kx_put (v := va_rf (post.head?)) (C := RJ33) (T := TJ33) (N := 4) hx hb hts in_J33 hown hK hO_it rfl 0 (by decide) tyJ33 tyJ33_ok nmJ33 hS_3 (by first | rfl | exact Or.inl rfl | exact Or.inr rfl | exact Or.inr (Or.inl rfl) | exact Or.inr (Or.inr rfl) | exact Or.inr (Or.inr (Or.inl rfl)) | exact Or.inr (Or.inr (Or.inr rfl)) | ((try dsimp only); (try simp only [kNW]); omega)) q955 (fun _ h9 => h9) rfl rfl rfl (op_fit _) (Nat.le_of_ble_eq_true rfl) dJ32_nextEntry_44 (fun H_8 locs_9 hO_7 hU_6 hS_10 => ?_)
    have hO_7 : kO D H_8 it 18 [va_rf (post.head?), va_rf (lr), .int (kI (mc)), .ref mp] := hO_7
    have hzu_11 := hU_6.1
    refine lv_aload_n hx hb dJ32_nextEntry_47 rfl (lv_at hl 1 rfl) ?_
    refine lv_aload_n hx hb dJ32_nextEntry_48 rfl (lv_at hl 0 rfl) ?_
    refine kx_put (v := .ref a) (C := RJ33) (T := TJ33) (N := 4) hx hb hts in_J33 hown hK hO_7 rfl 1 (by decide) tyJ33 tyJ33_ok nmJ33 hS_10 (by first | rfl | exact Or.inl rfl | exact Or.inr rfl | exact Or.inr (Or.inl rfl) | exact Or.inr (Or.inr rfl) | exact Or.inr (Or.inr (Or.inl rfl)) | exact Or.inr (Or.inr (Or.inr rfl)) | ((try dsimp only); (try simp only [kNW]); omega)) q956 (fun _ h9 => h9) rfl rfl rfl rfl (Nat.le_of_ble_eq_true rfl) dJ32_nextEntry_49 (fun H_14 locs_15 hO_13 hU_12 hS_16 => ?_)
    have hO_13 : kO D H_14 it 18 [va_rf (post.head?), .ref a, .int (kI (mc)), .ref mp] := hO_13
    have hzu_17 := hU_12.1
    refine lv_aload_n hx hb dJ32_nextEntry_52 rfl (lv_at hl 0 rfl) ?_
    exact kx_aret (z := a) hx hb hr (by first | exact Or.inl ⟨_, rfl⟩ | exact Or.inr ⟨_, rfl⟩) hlk (⟨by rfl, hO_13⟩) hS_16 dJ32_nextEntry_53
  · -- not taken at 28
    exfalso; omega

