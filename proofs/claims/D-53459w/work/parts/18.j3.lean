/-! THE JDK: lists that grow and shrink -/
set_option maxHeartbeats 4000000 in
set_option maxRecDepth 100000 in
theorem jm_remove (l : Launch) (G : oG) (a b n cap : Nat) (md : Int32) (xs : Nat → Option Nat) (i y : Nat) (hi : i < n) (hn : n ≤ cap) (hc : cap ≤ 65536) (hy : xs i = some y) (sz : Nat) : Met l yJ2_remove (ws_ yJ2_remove cJ2_remove 4 (some (.object "java/lang/Object"))) ({ frames := 2, cells := 0, slots := 0, locals := 53 }) (oPc G [.ref a, .int (nI i)] (oPE G ([(a, .inr (9, [.int md, .ref b, .int (nI n)])), (b, .inl (G.2 5, cap, .inr (.inr (.inr (.inr xs)))))]) sz (fun H => ∀ j : Nat, j < n → ∀ z : Nat, xs j = some z → oEl G H z))) (oE G (fun v_ W_ => v_ = some (.ref y) ∧ ∃ ys : Nat → Option Nat, (∀ j, j < i → ys j = xs j) ∧ (∀ j, i ≤ j → j < n - 1 → ys j = xs (j + 1)) ∧ W_ = [(a, .inr (9, [.int (md + 1), .ref b, .int (nI (n - 1))])), (b, .inl (G.2 5, cap, .inr (.inr (.inr (.inr ys)))))]) ([(a, .inr (9, [.int md, .ref b, .int (nI n)])), (b, .inl (G.2 5, cap, .inr (.inr (.inr (.inr xs)))))]) sz) 0 0 (va_A ([(a, .inr (9, [.int md, .ref b, .int (nI n)])), (b, .inl (G.2 5, cap, .inr (.inr (.inr (.inr xs)))))]) sz) := by
  refine Met.ofW (cc := cJ2_remove) (maxL := 4) (ret := (some (.object "java/lang/Object"))) (by decide) rfl ?_
  intro p e s m args below meth c s₁ B hml hv
  obtain ⟨rfl, ⟨hsz, hP, hD0, hX⟩, hE⟩ := hv
  have hx := B.exec
  have hb := B.bytes
  have hr := B.returns
  have hts := atoms_spec (ws := ws_ yJ2_remove cJ2_remove 4 (some (.object "java/lang/Object"))) B.pre
  have hts : ∀ w ∈ lw_all, w.before _ s = true := fun w h => hts w (List.mem_cons_of_mem _ h)
  have hown : s.vm.findClass RJ2 = some m.cls := findClass_of_methodNamed B.named
  have hlocks := B.notSynchronized
  subst hsz
  obtain ⟨A, hAe⟩ : ∃ A, A = va_A ([(a, .inr (9, [.int md, .ref b, .int (nI n)])), (b, .inl (G.2 5, cap, .inr (.inr (.inr (.inr xs)))))]) s.heap.size := ⟨_, rfl⟩
  have hD : va_D A ([(a, .inr (9, [.int md, .ref b, .int (nI n)])), (b, .inl (G.2 5, cap, .inr (.inr (.inr (.inr xs)))))]) := by rw [hAe]; exact hD0.self
  have hA : ∀ q : Nat, s.heap.size ≤ q → A q := fun q h => by rw [hAe]; exact Or.inr h
  have hl := lv_entry ([.ref a, .int (nI i)]) (n := 4) (Nat.le_of_ble_eq_true rfl)
  rw [lg_entry_eq]
  generalize (lg_sl ([.ref a, .int (nI i)]) ++ List.replicate (4 - (lg_sl ([.ref a, .int (nI i)])).length) Slot.unset).toArray = ls at hl ⊢
  replace hl : lv_has ls 4 [(0, .ref a), (1, .int (nI i))] := hl
  have hP0 : va_P G.1 cl0 ([(a, .inr (9, [.int md, .ref b, .int (nI n)])), (b, .inl (G.2 5, cap, .inr (.inr (.inr (.inr xs)))))]) s.heap := hP
  refine ol_start (A := A) (fun H locs hH hS => ?_)
  have hX0 : ∀ j : Nat, j < n → ∀ z : Nat, xs j = some z → oEl G s.heap z := hX
  have hX1 := hX0
  rw [← hH] at hP hX1
  clear hH
  refine lv_iload_n hx hb dJ2_remove_0 rfl (lv_at hl 1 rfl) ?_
  refine lv_aload_n hx hb dJ2_remove_1 rfl (lv_at hl 0 rfl) ?_
  refine va_get (D := G.1) (ci := 9) (v := .int (nI n)) (C := RJ2) (T := TJ2) (N := 3) hx hb hts in_J2 hown hE.1 hP 0 rfl rfl 2 (by decide) (hts _ q117) (fun _ h9 => h9) rfl dJ2_remove_2 ?_
  refine ol_cR (st1 := [.int (nI i)]) (va_runS (As := [.int (nI i), .int (nI n)]) (rest := []) ⟨hx, hb, hml, hown, hts⟩ (jk_check l G i n (by omega) (by omega)) (va_cwS 2 hts (lw_S q430 q431 q74 q432) rfl rfl rfl (by decide +kernel) ⟨Nat.le_of_ble_eq_true rfl, Nat.le_of_ble_eq_true rfl⟩) (oPc.preS hE trivial) rfl rfl hl.1 rfl (lv_room (Nat.le_of_ble_eq_true rfl)) dJ2_remove_5 ⟨Nat.le_of_ble_eq_true rfl, Nat.le_of_ble_eq_true rfl⟩) rfl ?_
  refine lv_pop hx hb dJ2_remove_8 rfl ?_
  refine lv_aload_n hx hb dJ2_remove_9 rfl (lv_at hl 0 rfl) ?_
  refine va_get (D := G.1) (ci := 9) (v := .ref b) (C := RJ2) (T := TJ2) (N := 3) hx hb hts in_J2 hown hE.1 hP 0 rfl rfl 1 (by decide) (hts _ q116) (fun _ h9 => h9) rfl dJ2_remove_10 ?_
  refine lv_astore_n (lv' := [(2, .ref b), (0, .ref a), (1, .int (nI i))]) hx hb dJ2_remove_13 rfl hl (by decide) rfl (fun ls hl => ?_)
  refine lv_aload_n hx hb dJ2_remove_14 rfl (lv_at hl 0 rfl) ?_
  refine lv_iload_n hx hb dJ2_remove_15 rfl (lv_at hl 2 rfl) ?_
  refine ol_aald hx hb hE.1 hP 1 5 rfl rfl i (by omega) (by omega) (show va_rf (xs i) = Value.ref y by rw [hy, va_rf]) dJ2_remove_16 ?_
  refine lv_astore_n (lv' := [(3, .ref y), (2, .ref b), (0, .ref a), (1, .int (nI i))]) hx hb dJ2_remove_17 rfl hl (by decide) rfl (fun ls hl => ?_)
  refine lv_aload_n hx hb dJ2_remove_18 rfl (lv_at hl 2 rfl) ?_
  refine lv_aload_n hx hb dJ2_remove_19 rfl (lv_at hl 1 rfl) ?_
  refine lv_iload_n hx hb dJ2_remove_20 rfl (lv_at hl 3 rfl) ?_
  refine ol_cJ (Wr := []) (va_runV (As := [.ref b, .int (nI i)]) (rest := []) ⟨hx, hb, hml, hown, hts⟩ (jm_fastRemove l G a b n cap md xs i hi hn hc H.size) (cwV 2 hts (lw_V q487 q489 qs3 q61 q490) rfl rfl rfl (by decide +kernel) ⟨Nat.le_of_ble_eq_true rfl, Nat.le_of_ble_eq_true rfl⟩) (oPc.preV hE (hE.recv (ci := 9) (hP 0 _ rfl) rfl) ⟨rfl, (hP.sub [0, 1] rfl), oD_weak (hD.sub [0, 1] (by decide) rfl) (fun _ _ => trivial), hX1⟩) rfl rfl hl.1 rfl (lv_room (Nat.le_of_ble_eq_true rfl)) dJ2_remove_21 ⟨Nat.le_of_ble_eq_true rfl, Nat.le_of_ble_eq_true rfl⟩) hP hD hS hA [0, 1] [] rfl rfl (by decide) (by decide) (fun v_ W_ H locs hΦ hP hD hS => ?_)
  obtain ⟨rfl, ys, hy1, hy2, rfl⟩ := hΦ
  replace hP : va_P G.1 cl0 ([(a, .inr (9, [.int (md + 1), .ref b, .int (nI (n - 1))])), (b, .inl (G.2 5, cap, .inr (.inr (.inr (.inr ys)))))]) H := hP
  replace hD : va_D A ([(a, .inr (9, [.int (md + 1), .ref b, .int (nI (n - 1))])), (b, .inl (G.2 5, cap, .inr (.inr (.inr (.inr ys)))))]) := hD
  refine lv_aload_n hx hb dJ2_remove_24 rfl (lv_at hl 0 rfl) ?_
  subst hAe
  exact ol_aretE hx hb hr (Or.inl ⟨_, rfl⟩) hlocks ⟨rfl, ys, hy1, hy2, rfl⟩ hP hD hS dJ2_remove_25
set_option maxHeartbeats 4000000 in
set_option maxRecDepth 100000 in
theorem jm_copyOf3 (l : Launch) (G : oG) (Z : oZ) (b cap t : Nat) (xs : Nat → Option Nat) (hc : cap ≤ t) (ht : t ≤ 65536) (sz : Nat) : Met l yJ5_copyOf_2 (ws_ yJ5_copyOf_2 cJ5_copyOf_2 4 (some (.array (.object "java/lang/Object")))) ({ frames := 1, cells := 1, slots := t, locals := 30 }) (oPc1 G Z [.ref b, .int (nI t), .ref (Z.2.2 1)] (oPE1 G Z ([(b, .inl (G.2 5, cap, .inr (.inr (.inr (.inr xs)))))]) sz (fun H => ∀ j : Nat, j < cap → ∀ z : Nat, xs j = some z → oEl G H z))) (oE G (fun v_ W_ => ∃ q : Nat, v_ = some (.ref q) ∧ W_ = [(b, .inl (G.2 5, cap, .inr (.inr (.inr (.inr xs))))), (q, .inl (G.2 5, t, .inr (.inr (.inr (.inr (va_cpy xs (fun _ => none) 0 0 cap))))))]) ([(b, .inl (G.2 5, cap, .inr (.inr (.inr (.inr xs)))))]) sz) 1 t (va_A ([(b, .inl (G.2 5, cap, .inr (.inr (.inr (.inr xs)))))]) sz) := by
  refine Met.ofW (cc := cJ5_copyOf_2) (maxL := 4) (ret := (some (.array (.object "java/lang/Object")))) (by decide) rfl ?_
  intro p e s m args below meth c s₁ B hml hv
  obtain ⟨rfl, ⟨hsz, hP, hDb, hB, hX⟩, hE⟩ := hv
  have hD0 : va_D (fun _ => True) ([(b, .inl (G.2 5, cap, .inr (.inr (.inr (.inr xs)))))]) := oD_weak hDb (fun _ _ => trivial)
  have hx := B.exec
  have hb := B.bytes
  have hr := B.returns
  have hts := atoms_spec (ws := ws_ yJ5_copyOf_2 cJ5_copyOf_2 4 (some (.array (.object "java/lang/Object")))) B.pre
  have hts : ∀ w ∈ lw_all, w.before _ s = true := fun w h => hts w (List.mem_cons_of_mem _ h)
  have hown : s.vm.findClass RJ5 = some m.cls := findClass_of_methodNamed B.named
  have hlocks := B.notSynchronized
  subst hsz
  obtain ⟨A, hAe⟩ : ∃ A, A = va_A ([(b, .inl (G.2 5, cap, .inr (.inr (.inr (.inr xs)))))]) s.heap.size := ⟨_, rfl⟩
  have hD : va_D A ([(b, .inl (G.2 5, cap, .inr (.inr (.inr (.inr xs)))))]) := by rw [hAe]; exact hD0.self
  have hA : ∀ q : Nat, s.heap.size ≤ q → A q := fun q h => by rw [hAe]; exact Or.inr h
  have hAZ : ∀ q : Nat, A q → Z.1 ≤ q := fun q h => oA_base hDb hB q (by rw [hAe] at h; exact h)
  have hl := lv_entry ([.ref b, .int (nI t), .ref (Z.2.2 1)]) (n := 4) (Nat.le_of_ble_eq_true rfl)
  rw [lg_entry_eq]
  generalize (lg_sl ([.ref b, .int (nI t), .ref (Z.2.2 1)]) ++ List.replicate (4 - (lg_sl ([.ref b, .int (nI t), .ref (Z.2.2 1)])).length) Slot.unset).toArray = ls at hl ⊢
  replace hl : lv_has ls 4 [(0, .ref b), (1, .int (nI t)), (2, .ref (Z.2.2 1))] := hl
  have hP0 : va_P G.1 cl0 ([(b, .inl (G.2 5, cap, .inr (.inr (.inr (.inr xs)))))]) s.heap := hP
  refine ol_start (A := A) (fun H locs hH hS => ?_)
  have hX0 : ∀ j : Nat, j < cap → ∀ z : Nat, xs j = some z → oEl G s.heap z := hX
  have hX1 := hX0
  rw [← hH] at hP hX1
  clear hH
  refine lv_aload_n hx hb dJ5_copyOf_2_0 rfl (lv_at hl 2 rfl) ?_
  refine va_ldcM hx hb hown (hts _ q228) hE.2.2.2.2.1 dJ5_copyOf_2_1 ?_
  refine lv_acmp_ne (rx := some (Z.2.2 1)) (ry := some (Z.2.2 1)) (tgt := 13) hx hb dJ5_copyOf_2_3 (by decide) (fun c_3 => ?_) (fun c_3 => ?_)
  · exact absurd c_3 (by simp)
  · refine lv_iload_n hx hb dJ5_copyOf_2_6 rfl (lv_at hl 1 rfl) ?_
    refine ol_newo hx hb hown (hts _ q230) hE.1 hP hD hS hA t (by omega) (by show 0 + 1 ≤ 1; omega) (by show 0 + t ≤ t; omega) dJ5_copyOf_2_7 (fun qn1 H hP hD hS => ?_)
    replace hP : va_P G.1 cl0 ([(b, .inl (G.2 5, cap, .inr (.inr (.inr (.inr xs))))), (qn1, .inl (G.2 5, t, .inr (.inr (.inr (.inr (fun _ => none))))))]) H := hP
    replace hD : va_D A ([(b, .inl (G.2 5, cap, .inr (.inr (.inr (.inr xs))))), (qn1, .inl (G.2 5, t, .inr (.inr (.inr (.inr (fun _ => none))))))]) := hD
    refine lv_goto (tgt := 24) hx hb dJ5_copyOf_2_10 (by decide) ?_
    refine lv_astore_n (lv' := [(3, .ref qn1), (0, .ref b), (1, .int (nI t)), (2, .ref (Z.2.2 1))]) hx hb dJ5_copyOf_2_24 rfl hl (by decide) rfl (fun ls hl => ?_)
    refine lv_aload_n hx hb dJ5_copyOf_2_25 rfl (lv_at hl 1 rfl) ?_
    refine lv_iconst (v := 0) hx hb dJ5_copyOf_2_26 (by decide) ?_
    refine lv_aload_n hx hb dJ5_copyOf_2_27 rfl (lv_at hl 0 rfl) ?_
    refine lv_iconst (v := 0) hx hb dJ5_copyOf_2_28 (by decide) ?_
    refine lv_aload_n hx hb dJ5_copyOf_2_29 rfl (lv_at hl 1 rfl) ?_
    refine va_alen (v := nI cap) hx hb hE.1.1 hP 0 5 rfl rfl rfl dJ5_copyOf_2_30 ?_
    refine lv_iload_n hx hb dJ5_copyOf_2_31 rfl (lv_at hl 2 rfl) ?_
    refine va_mmin hx hb (by rw [hml]; exact hl.1.symm) hown (hts _ q231) (hts _ q232) (hts _ q65) (hts _ q233) (Nat.le_of_ble_eq_true rfl) (Nat.le_of_ble_eq_true rfl) (by show 1 + 0 ≤ 1; omega) (by show 0 + t + 0 ≤ t; omega) dJ5_copyOf_2_32 ?_
    refine ol_top (y := nI cap) (nI_min hc (by omega)) ?_
    have hel : ∀ z, oEl G s.heap z → oEl G H z := fun z hz => hz.keep hE.1 hP0 hP (by rw [← hAe]; exact hS) (by intro x hx; simp only [List.mem_cons, List.not_mem_nil, or_false] at hx; rcases hx with rfl; exact Or.inl ⟨_, rfl⟩)
    refine ol_copyo hx hb (by rw [hml]; exact hl.1.symm) hown (hts _ q234) (hts _ q236) (hts _ q235) (hts _ q67) hE.1 hP hD hS 0 1 rfl rfl 0 0 cap (by omega) (by omega) (by omega) (fun j hj z hz => hel z (hX0 _ (by omega) z (by rw [Nat.zero_add] at hz; exact hz))) (Nat.le_of_ble_eq_true rfl) (Nat.le_of_ble_eq_true rfl) dJ5_copyOf_2_35 (fun H locs hP hD hS => ?_)
    replace hP : va_P G.1 cl0 ([(b, .inl (G.2 5, cap, .inr (.inr (.inr (.inr xs))))), (qn1, .inl (G.2 5, t, .inr (.inr (.inr (.inr (va_cpy xs (fun _ => none) 0 0 cap))))))]) H := hP
    replace hD : va_D A ([(b, .inl (G.2 5, cap, .inr (.inr (.inr (.inr xs))))), (qn1, .inl (G.2 5, t, .inr (.inr (.inr (.inr (va_cpy xs (fun _ => none) 0 0 cap))))))]) := hD
    refine lv_aload_n hx hb dJ5_copyOf_2_38 rfl (lv_at hl 0 rfl) ?_
    subst hAe
    refine ol_cnt (cells' := 1) (slots' := t) (by omega) (by omega) ?_
    exact ol_aretE hx hb hr (Or.inr ⟨_, rfl⟩) hlocks ⟨_, rfl, rfl⟩ hP hD hS dJ5_copyOf_2_39
set_option maxHeartbeats 4000000 in
set_option maxRecDepth 100000 in
theorem jm_copyOf2 (l : Launch) (G : oG) (Z : oZ) (b cap t : Nat) (xs : Nat → Option Nat) (hc : cap ≤ t) (ht : t ≤ 65536) (sz : Nat) : Met l yJ5_copyOf (ws_ yJ5_copyOf cJ5_copyOf 2 (some (.array (.object "java/lang/Object")))) ({ frames := 2, cells := 1, slots := t, locals := 53 }) (oPc1 G Z [.ref b, .int (nI t)] (oPE1 G Z ([(b, .inl (G.2 5, cap, .inr (.inr (.inr (.inr xs)))))]) sz (fun H => ∀ j : Nat, j < cap → ∀ z : Nat, xs j = some z → oEl G H z))) (oE G (fun v_ W_ => ∃ q : Nat, v_ = some (.ref q) ∧ W_ = [(b, .inl (G.2 5, cap, .inr (.inr (.inr (.inr xs))))), (q, .inl (G.2 5, t, .inr (.inr (.inr (.inr (va_cpy xs (fun _ => none) 0 0 cap))))))]) ([(b, .inl (G.2 5, cap, .inr (.inr (.inr (.inr xs)))))]) sz) 1 t (va_A ([(b, .inl (G.2 5, cap, .inr (.inr (.inr (.inr xs)))))]) sz) := by
  refine Met.ofW (cc := cJ5_copyOf) (maxL := 2) (ret := (some (.array (.object "java/lang/Object")))) (by decide) rfl ?_
  intro p e s m args below meth c s₁ B hml hv
  obtain ⟨rfl, ⟨hsz, hP, hDb, hB, hX⟩, hE⟩ := hv
  have hD0 : va_D (fun _ => True) ([(b, .inl (G.2 5, cap, .inr (.inr (.inr (.inr xs)))))]) := oD_weak hDb (fun _ _ => trivial)
  have hx := B.exec
  have hb := B.bytes
  have hr := B.returns
  have hts := atoms_spec (ws := ws_ yJ5_copyOf cJ5_copyOf 2 (some (.array (.object "java/lang/Object")))) B.pre
  have hts : ∀ w ∈ lw_all, w.before _ s = true := fun w h => hts w (List.mem_cons_of_mem _ h)
  have hown : s.vm.findClass RJ5 = some m.cls := findClass_of_methodNamed B.named
  have hlocks := B.notSynchronized
  subst hsz
  obtain ⟨A, hAe⟩ : ∃ A, A = va_A ([(b, .inl (G.2 5, cap, .inr (.inr (.inr (.inr xs)))))]) s.heap.size := ⟨_, rfl⟩
  have hD : va_D A ([(b, .inl (G.2 5, cap, .inr (.inr (.inr (.inr xs)))))]) := by rw [hAe]; exact hD0.self
  have hA : ∀ q : Nat, s.heap.size ≤ q → A q := fun q h => by rw [hAe]; exact Or.inr h
  have hAZ : ∀ q : Nat, A q → Z.1 ≤ q := fun q h => oA_base hDb hB q (by rw [hAe] at h; exact h)
  have hl := lv_entry ([.ref b, .int (nI t)]) (n := 2) (Nat.le_of_ble_eq_true rfl)
  rw [lg_entry_eq]
  generalize (lg_sl ([.ref b, .int (nI t)]) ++ List.replicate (2 - (lg_sl ([.ref b, .int (nI t)])).length) Slot.unset).toArray = ls at hl ⊢
  replace hl : lv_has ls 2 [(0, .ref b), (1, .int (nI t))] := hl
  have hP0 : va_P G.1 cl0 ([(b, .inl (G.2 5, cap, .inr (.inr (.inr (.inr xs)))))]) s.heap := hP
  refine ol_start (A := A) (fun H locs hH hS => ?_)
  have hX0 : ∀ j : Nat, j < cap → ∀ z : Nat, xs j = some z → oEl G s.heap z := hX
  have hX1 := hX0
  rw [← hH] at hP hX1
  clear hH
  refine lv_aload_n hx hb dJ5_copyOf_0 rfl (lv_at hl 0 rfl) ?_
  refine lv_iload_n hx hb dJ5_copyOf_1 rfl (lv_at hl 1 rfl) ?_
  refine lv_aload_n hx hb dJ5_copyOf_2 rfl (lv_at hl 0 rfl) ?_
  refine va_getC hx hb (by rw [hml]; exact hl.1.symm) hown (hts _ q208) hE.2.2.2.2.2.use (hts _ q1465) (hts _ q209) (hts _ q224) hE.2.2.2.2.1 (ol_arrRecv hE.1 (hP 0 _ rfl)) (Nat.le_of_ble_eq_true rfl) (Nat.le_of_ble_eq_true rfl) dJ5_copyOf_3 ?_
  refine ol_cJ (Wr := []) (va_runS (As := [.ref b, .int (nI t), .ref (Z.2.2 1)]) (rest := []) ⟨hx, hb, hml, hown, hts⟩ (jm_copyOf3 l G Z b cap t xs hc ht H.size) (va_cwS 3 hts (lw_S q225 q226 q66 q227) rfl rfl rfl (by decide +kernel) ⟨Nat.le_of_ble_eq_true rfl, Nat.le_of_ble_eq_true rfl⟩) (oPc1.preS hE ⟨rfl, (hP.sub [0] rfl), oD_weak (hD.sub [0] (by decide) rfl) hAZ, hB.keep hS hAZ, hX1⟩) rfl rfl hl.1 rfl (lv_room (Nat.le_of_ble_eq_true rfl)) dJ5_copyOf_6 ⟨(by show 0 + 1 ≤ 1; omega), (by show 0 + t ≤ t; omega)⟩) hP hD hS hA [0] [] rfl rfl (by decide) (by decide) (fun v_ W_ H locs hΦ hP hD hS => ?_)
  obtain ⟨q, rfl, rfl⟩ := hΦ
  replace hP : va_P G.1 cl0 ([(b, .inl (G.2 5, cap, .inr (.inr (.inr (.inr xs))))), (q, .inl (G.2 5, t, .inr (.inr (.inr (.inr (va_cpy xs (fun _ => none) 0 0 cap))))))]) H := hP
  replace hD : va_D A ([(b, .inl (G.2 5, cap, .inr (.inr (.inr (.inr xs))))), (q, .inl (G.2 5, t, .inr (.inr (.inr (.inr (va_cpy xs (fun _ => none) 0 0 cap))))))]) := hD
  subst hAe
  refine ol_cnt (cells' := 1) (slots' := t) (by omega) (by omega) ?_
  exact ol_aretE hx hb hr (Or.inr ⟨_, rfl⟩) hlocks ⟨q, rfl, rfl⟩ hP hD hS dJ5_copyOf_9
set_option maxHeartbeats 4000000 in
set_option maxRecDepth 100000 in
theorem jm_growG (l : Launch) (G : oG) (Z : oZ) (a b n : Nat) (md : Int32) (xs : Nat → Option Nat) (h2 : 2 ≤ n) (hn : n ≤ 40000) (sz : Nat) : Met l yJ2_grow_2 (ws_ yJ2_grow_2 cJ2_grow_2 4 (some (.array (.object "java/lang/Object")))) ({ frames := 3, cells := 1, slots := n + n / 2, locals := 74 }) (oPc1 G Z [.ref a, .int (nI (n + 1))] (oPE1 G Z ([(a, .inr (9, [.int md, .ref b, .int (nI n)])), (b, .inl (G.2 5, n, .inr (.inr (.inr (.inr xs)))))]) sz (fun H => ∀ j : Nat, j < n → ∀ z : Nat, xs j = some z → oEl G H z))) (oE G (fun v_ W_ => ∃ q : Nat, v_ = some (.ref q) ∧ W_ = [(a, .inr (9, [.int md, .ref q, .int (nI n)])), (q, .inl (G.2 5, n + n / 2, .inr (.inr (.inr (.inr (va_cpy xs (fun _ => none) 0 0 n))))))]) ([(a, .inr (9, [.int md, .ref b, .int (nI n)])), (b, .inl (G.2 5, n, .inr (.inr (.inr (.inr xs)))))]) sz) 1 (n + n / 2) (va_A ([(a, .inr (9, [.int md, .ref b, .int (nI n)])), (b, .inl (G.2 5, n, .inr (.inr (.inr (.inr xs)))))]) sz) := by
  refine Met.ofW (cc := cJ2_grow_2) (maxL := 4) (ret := (some (.array (.object "java/lang/Object")))) (by decide) rfl ?_
  intro p e s m args below meth c s₁ B hml hv
  obtain ⟨rfl, ⟨hsz, hP, hDb, hB, hX⟩, hE⟩ := hv
  have hD0 : va_D (fun _ => True) ([(a, .inr (9, [.int md, .ref b, .int (nI n)])), (b, .inl (G.2 5, n, .inr (.inr (.inr (.inr xs)))))]) := oD_weak hDb (fun _ _ => trivial)
  have hx := B.exec
  have hb := B.bytes
  have hr := B.returns
  have hts := atoms_spec (ws := ws_ yJ2_grow_2 cJ2_grow_2 4 (some (.array (.object "java/lang/Object")))) B.pre
  have hts : ∀ w ∈ lw_all, w.before _ s = true := fun w h => hts w (List.mem_cons_of_mem _ h)
  have hown : s.vm.findClass RJ2 = some m.cls := findClass_of_methodNamed B.named
  have hlocks := B.notSynchronized
  subst hsz
  obtain ⟨A, hAe⟩ : ∃ A, A = va_A ([(a, .inr (9, [.int md, .ref b, .int (nI n)])), (b, .inl (G.2 5, n, .inr (.inr (.inr (.inr xs)))))]) s.heap.size := ⟨_, rfl⟩
  have hD : va_D A ([(a, .inr (9, [.int md, .ref b, .int (nI n)])), (b, .inl (G.2 5, n, .inr (.inr (.inr (.inr xs)))))]) := by rw [hAe]; exact hD0.self
  have hA : ∀ q : Nat, s.heap.size ≤ q → A q := fun q h => by rw [hAe]; exact Or.inr h
  have hAZ : ∀ q : Nat, A q → Z.1 ≤ q := fun q h => oA_base hDb hB q (by rw [hAe] at h; exact h)
  have hl := lv_entry ([.ref a, .int (nI (n + 1))]) (n := 4) (Nat.le_of_ble_eq_true rfl)
  rw [lg_entry_eq]
  generalize (lg_sl ([.ref a, .int (nI (n + 1))]) ++ List.replicate (4 - (lg_sl ([.ref a, .int (nI (n + 1))])).length) Slot.unset).toArray = ls at hl ⊢
  replace hl : lv_has ls 4 [(0, .ref a), (1, .int (nI (n + 1)))] := hl
  have hP0 : va_P G.1 cl0 ([(a, .inr (9, [.int md, .ref b, .int (nI n)])), (b, .inl (G.2 5, n, .inr (.inr (.inr (.inr xs)))))]) s.heap := hP
  refine ol_start (A := A) (fun H locs hH hS => ?_)
  have hX0 : ∀ j : Nat, j < n → ∀ z : Nat, xs j = some z → oEl G s.heap z := hX
  have hX1 := hX0
  rw [← hH] at hP hX1
  clear hH
  refine lv_aload_n hx hb dJ2_grow_2_0 rfl (lv_at hl 0 rfl) ?_
  refine va_get (D := G.1) (ci := 9) (v := .ref b) (C := RJ2) (T := TJ2) (N := 3) hx hb hts in_J2 hown hE.1.1 hP 0 rfl rfl 1 (by decide) (hts _ q116) (fun _ h9 => h9) rfl dJ2_grow_2_1 ?_
  refine va_alen (v := nI n) hx hb hE.1.1 hP 1 5 rfl rfl rfl dJ2_grow_2_4 ?_
  refine lv_istore_n (lv' := [(2, .int (nI n)), (0, .ref a), (1, .int (nI (n + 1)))]) hx hb dJ2_grow_2_5 rfl hl (by decide) rfl (fun ls hl => ?_)
  refine lv_iload_n hx hb dJ2_grow_2_6 rfl (lv_at hl 0 rfl) ?_
  refine ol_if_gt hx hb n (by omega) (tgt := 20) dJ2_grow_2_7 (by decide) (fun c_7 => ?_) (fun c_7 => ?_)
  · refine lv_iload_n hx hb dJ2_grow_2_20 rfl (lv_at hl 0 rfl) ?_
    refine lv_iload_n hx hb dJ2_grow_2_21 rfl (lv_at hl 2 rfl) ?_
    refine lv_iload_n hx hb dJ2_grow_2_22 rfl (lv_at hl 0 rfl) ?_
    refine ol_isub hx hb (n + 1) n (by omega) dJ2_grow_2_23 ?_
    refine lv_iload_n hx hb dJ2_grow_2_24 rfl (lv_at hl 0 rfl) ?_
    refine lv_iconst (v := 1) hx hb dJ2_grow_2_25 (by decide) ?_
    refine lv_ishr hx hb dJ2_grow_2_26 ?_
    refine ol_top (y := nI (n / 2)) (by have k := pk_shrN (n := n) (by omega) ((1 : Int32) &&& 31) 1 (by decide); rw [Nat.pow_one] at k; exact k) ?_
    refine ol_cR (st1 := [.int (nI (n + (n / 2)))]) (va_runS (As := [.int (nI n), .int (nI (n + 1 - n)), .int (nI (n / 2))]) (rest := []) ⟨hx, hb, hml, hown, hts⟩ (jk_newLength l G n (n + 1 - n) (n / 2) (by omega) (by omega) (by omega)) (va_cwS 3 hts (lw_S q195 q196 q64 q197) rfl rfl rfl (by decide +kernel) ⟨Nat.le_of_ble_eq_true rfl, Nat.le_of_ble_eq_true rfl⟩) (oPc.preS hE.1 trivial) rfl rfl hl.1 rfl (lv_room (Nat.le_of_ble_eq_true rfl)) dJ2_grow_2_27 ⟨(by show 0 + 0 ≤ 1; omega), (by show 0 + 0 ≤ n + n / 2; omega)⟩) rfl ?_
    refine lv_istore_n (lv' := [(3, .int (nI (n + (n / 2)))), (2, .int (nI n)), (0, .ref a), (1, .int (nI (n + 1)))]) hx hb dJ2_grow_2_30 rfl hl (by decide) rfl (fun ls hl => ?_)
    refine lv_aload_n hx hb dJ2_grow_2_31 rfl (lv_at hl 2 rfl) ?_
    refine lv_aload_n hx hb dJ2_grow_2_32 rfl (lv_at hl 2 rfl) ?_
    refine va_get (D := G.1) (ci := 9) (v := .ref b) (C := RJ2) (T := TJ2) (N := 3) hx hb hts in_J2 hown hE.1.1 hP 0 rfl rfl 1 (by decide) (hts _ q116) (fun _ h9 => h9) rfl dJ2_grow_2_33 ?_
    refine lv_iload_n hx hb dJ2_grow_2_36 rfl (lv_at hl 0 rfl) ?_
    refine ol_top (y := nI (n + n / 2)) rfl ?_
    have hel : ∀ z, oEl G s.heap z → oEl G H z := fun z hz => hz.keep hE.1 hP0 hP (by rw [← hAe]; exact hS) (by intro x hx; simp only [List.mem_cons, List.not_mem_nil, or_false] at hx; rcases hx with rfl | rfl; exact Or.inr ⟨_, List.mem_cons_self⟩; exact Or.inl ⟨_, rfl⟩)
    refine ol_cJ (Wr := [(a, .inr (9, [.int md, .ref b, .int (nI n)]))]) (va_runS (As := [.ref b, .int (nI (n + n / 2))]) (rest := [.ref a]) ⟨hx, hb, hml, hown, hts⟩ (jm_copyOf2 l G Z b n (n + n / 2) xs (by omega) (by omega) H.size) (va_cwS 2 hts (lw_S q205 q206 q66 q207) rfl rfl rfl (by decide +kernel) ⟨Nat.le_of_ble_eq_true rfl, Nat.le_of_ble_eq_true rfl⟩) (oPc1.preS hE ⟨rfl, (hP.sub [1] rfl), oD_weak (hD.sub [1] (by decide) rfl) hAZ, hB.keep hS hAZ, (fun j hj z hz => hel z (hX0 j hj z hz))⟩) rfl rfl hl.1 rfl (lv_room (Nat.le_of_ble_eq_true rfl)) dJ2_grow_2_37 ⟨(by show 0 + 1 ≤ 1; omega), (by show 0 + (n + n / 2) ≤ n + n / 2; omega)⟩) hP hD hS hA [1] [0] rfl rfl (by decide) (by decide) (fun v_ W_ H locs hΦ hP hD hS => ?_)
    obtain ⟨q, rfl, rfl⟩ := hΦ
    replace hP : va_P G.1 cl0 ([(a, .inr (9, [.int md, .ref b, .int (nI n)])), (b, .inl (G.2 5, n, .inr (.inr (.inr (.inr xs))))), (q, .inl (G.2 5, n + n / 2, .inr (.inr (.inr (.inr (va_cpy xs (fun _ => none) 0 0 n))))))]) H := hP
    replace hD : va_D A ([(a, .inr (9, [.int md, .ref b, .int (nI n)])), (b, .inl (G.2 5, n, .inr (.inr (.inr (.inr xs))))), (q, .inl (G.2 5, n + n / 2, .inr (.inr (.inr (.inr (va_cpy xs (fun _ => none) 0 0 n))))))]) := hD
    refine lv_dup_x1 hx hb dJ2_grow_2_40 rfl rfl ?_
    refine va_put (D := G.1) (ci := 9) (v := .ref q) (ty := .array (.object "java/lang/Object")) (C := RJ2) (T := TJ2) (N := 3) hx hb hts in_J2 tyJ2 tyJ2_ok nmJ2 hown hE.1.1 hP hD hS 0 rfl rfl 1 (by decide) (hts _ q116) (fun _ h9 => h9) rfl (by decide +kernel) rfl rfl (Nat.le_of_ble_eq_true rfl) dJ2_grow_2_41 (fun H locs hP hD hS => ?_)
    replace hP : va_P G.1 cl0 ([(a, .inr (9, [.int md, .ref q, .int (nI n)])), (b, .inl (G.2 5, n, .inr (.inr (.inr (.inr xs))))), (q, .inl (G.2 5, n + n / 2, .inr (.inr (.inr (.inr (va_cpy xs (fun _ => none) 0 0 n))))))]) H := hP
    replace hD : va_D A ([(a, .inr (9, [.int md, .ref q, .int (nI n)])), (b, .inl (G.2 5, n, .inr (.inr (.inr (.inr xs))))), (q, .inl (G.2 5, n + n / 2, .inr (.inr (.inr (.inr (va_cpy xs (fun _ => none) 0 0 n))))))]) := hD
    replace hP := hP.sub (ws' := [(a, .inr (9, [.int md, .ref q, .int (nI n)])), (q, .inl (G.2 5, n + n / 2, .inr (.inr (.inr (.inr (va_cpy xs (fun _ => none) 0 0 n))))))]) [0, 2] rfl
    replace hD := hD.sub (ws' := [(a, .inr (9, [.int md, .ref q, .int (nI n)])), (q, .inl (G.2 5, n + n / 2, .inr (.inr (.inr (.inr (va_cpy xs (fun _ => none) 0 0 n))))))]) [0, 2] (by decide) rfl
    subst hAe
    refine ol_cnt (cells' := 1) (slots' := n + n / 2) (by omega) (by omega) ?_
    exact ol_aretE hx hb hr (Or.inr ⟨_, rfl⟩) hlocks ⟨q, rfl, rfl⟩ hP hD hS dJ2_grow_2_44
  · exact absurd c_7 (by omega)
set_option maxHeartbeats 4000000 in
set_option maxRecDepth 100000 in
theorem jm_growG1 (l : Launch) (G : oG) (Z : oZ) (a b n : Nat) (md : Int32) (xs : Nat → Option Nat) (h2 : 2 ≤ n) (hn : n ≤ 40000) (sz : Nat) : Met l yJ2_grow (ws_ yJ2_grow cJ2_grow 1 (some (.array (.object "java/lang/Object")))) ({ frames := 4, cells := 1, slots := n + n / 2, locals := 97 }) (oPc1 G Z [.ref a] (oPE1 G Z ([(a, .inr (9, [.int md, .ref b, .int (nI n)])), (b, .inl (G.2 5, n, .inr (.inr (.inr (.inr xs)))))]) sz (fun H => ∀ j : Nat, j < n → ∀ z : Nat, xs j = some z → oEl G H z))) (oE G (fun v_ W_ => ∃ q : Nat, v_ = some (.ref q) ∧ W_ = [(a, .inr (9, [.int md, .ref q, .int (nI n)])), (q, .inl (G.2 5, n + n / 2, .inr (.inr (.inr (.inr (va_cpy xs (fun _ => none) 0 0 n))))))]) ([(a, .inr (9, [.int md, .ref b, .int (nI n)])), (b, .inl (G.2 5, n, .inr (.inr (.inr (.inr xs)))))]) sz) 1 (n + n / 2) (va_A ([(a, .inr (9, [.int md, .ref b, .int (nI n)])), (b, .inl (G.2 5, n, .inr (.inr (.inr (.inr xs)))))]) sz) := by
  refine Met.ofW (cc := cJ2_grow) (maxL := 1) (ret := (some (.array (.object "java/lang/Object")))) (by decide) rfl ?_
  intro p e s m args below meth c s₁ B hml hv
  obtain ⟨rfl, ⟨hsz, hP, hDb, hB, hX⟩, hE⟩ := hv
  have hD0 : va_D (fun _ => True) ([(a, .inr (9, [.int md, .ref b, .int (nI n)])), (b, .inl (G.2 5, n, .inr (.inr (.inr (.inr xs)))))]) := oD_weak hDb (fun _ _ => trivial)
  have hx := B.exec
  have hb := B.bytes
  have hr := B.returns
  have hts := atoms_spec (ws := ws_ yJ2_grow cJ2_grow 1 (some (.array (.object "java/lang/Object")))) B.pre
  have hts : ∀ w ∈ lw_all, w.before _ s = true := fun w h => hts w (List.mem_cons_of_mem _ h)
  have hown : s.vm.findClass RJ2 = some m.cls := findClass_of_methodNamed B.named
  have hlocks := B.notSynchronized
  subst hsz
  obtain ⟨A, hAe⟩ : ∃ A, A = va_A ([(a, .inr (9, [.int md, .ref b, .int (nI n)])), (b, .inl (G.2 5, n, .inr (.inr (.inr (.inr xs)))))]) s.heap.size := ⟨_, rfl⟩
  have hD : va_D A ([(a, .inr (9, [.int md, .ref b, .int (nI n)])), (b, .inl (G.2 5, n, .inr (.inr (.inr (.inr xs)))))]) := by rw [hAe]; exact hD0.self
  have hA : ∀ q : Nat, s.heap.size ≤ q → A q := fun q h => by rw [hAe]; exact Or.inr h
  have hAZ : ∀ q : Nat, A q → Z.1 ≤ q := fun q h => oA_base hDb hB q (by rw [hAe] at h; exact h)
  have hl := lv_entry ([.ref a]) (n := 1) (Nat.le_of_ble_eq_true rfl)
  rw [lg_entry_eq]
  generalize (lg_sl ([.ref a]) ++ List.replicate (1 - (lg_sl ([.ref a])).length) Slot.unset).toArray = ls at hl ⊢
  replace hl : lv_has ls 1 [(0, .ref a)] := hl
  have hP0 : va_P G.1 cl0 ([(a, .inr (9, [.int md, .ref b, .int (nI n)])), (b, .inl (G.2 5, n, .inr (.inr (.inr (.inr xs)))))]) s.heap := hP
  refine ol_start (A := A) (fun H locs hH hS => ?_)
  have hX0 : ∀ j : Nat, j < n → ∀ z : Nat, xs j = some z → oEl G s.heap z := hX
  have hX1 := hX0
  rw [← hH] at hP hX1
  clear hH
  refine lv_aload_n hx hb dJ2_grow_0 rfl (lv_at hl 0 rfl) ?_
  refine lv_aload_n hx hb dJ2_grow_1 rfl (lv_at hl 0 rfl) ?_
  refine va_get (D := G.1) (ci := 9) (v := .int (nI n)) (C := RJ2) (T := TJ2) (N := 3) hx hb hts in_J2 hown hE.1.1 hP 0 rfl rfl 2 (by decide) (hts _ q117) (fun _ h9 => h9) rfl dJ2_grow_2 ?_
  refine lv_iconst (v := 1) hx hb dJ2_grow_5 (by decide) ?_
  refine ol_iadd hx hb n 1 dJ2_grow_6 ?_
  refine ol_cJ (Wr := []) (va_runV (As := [.int (nI (n + 1))]) (rest := []) ⟨hx, hb, hml, hown, hts⟩ (jm_growG l G Z a b n md xs h2 hn H.size) (cwV 1 hts (lw_V q191 q193 qs2 q61 q194) rfl rfl rfl (by decide +kernel) ⟨Nat.le_of_ble_eq_true rfl, Nat.le_of_ble_eq_true rfl⟩) (oPc1.preV hE (hE.1.recv (ci := 9) (hP 0 _ rfl) rfl) ⟨rfl, (hP.sub [0, 1] rfl), oD_weak (hD.sub [0, 1] (by decide) rfl) hAZ, hB.keep hS hAZ, hX1⟩) rfl rfl hl.1 rfl (lv_room (Nat.le_of_ble_eq_true rfl)) dJ2_grow_7 ⟨(by show 0 + 1 ≤ 1; omega), (by show 0 + (n + n / 2) ≤ n + n / 2; omega)⟩) hP hD hS hA [0, 1] [] rfl rfl (by decide) (by decide) (fun v_ W_ H locs hΦ hP hD hS => ?_)
  obtain ⟨q, rfl, rfl⟩ := hΦ
  replace hP : va_P G.1 cl0 ([(a, .inr (9, [.int md, .ref q, .int (nI n)])), (q, .inl (G.2 5, n + n / 2, .inr (.inr (.inr (.inr (va_cpy xs (fun _ => none) 0 0 n))))))]) H := hP
  replace hD : va_D A ([(a, .inr (9, [.int md, .ref q, .int (nI n)])), (q, .inl (G.2 5, n + n / 2, .inr (.inr (.inr (.inr (va_cpy xs (fun _ => none) 0 0 n))))))]) := hD
  subst hAe
  refine ol_cnt (cells' := 1) (slots' := n + n / 2) (by omega) (by omega) ?_
  exact ol_aretE hx hb hr (Or.inr ⟨_, rfl⟩) hlocks ⟨q, rfl, rfl⟩ hP hD hS dJ2_grow_10
set_option maxHeartbeats 4000000 in
set_option maxRecDepth 100000 in
theorem jm_grow0 (l : Launch) (G : oG) (Z : oZ) (a : Nat) (md : Int32)  (sz : Nat) : Met l yJ2_grow_2 (ws_ yJ2_grow_2 cJ2_grow_2 4 (some (.array (.object "java/lang/Object")))) ({ frames := 1, cells := 1, slots := 10, locals := 14 }) (oPc1 G Z [.ref a, .int (nI 1)] (oPE1 G Z ([(a, .inr (9, [.int md, .ref (Z.2.2 0), .int (nI 0)]))]) sz (fun _ => True))) (oE G (fun v_ W_ => ∃ q : Nat, v_ = some (.ref q) ∧ W_ = [(a, .inr (9, [.int md, .ref q, .int (nI 0)])), (q, .inl (G.2 5, 10, .inr (.inr (.inr (.inr (fun _ => none))))))]) ([(a, .inr (9, [.int md, .ref (Z.2.2 0), .int (nI 0)]))]) sz) 1 10 (va_A ([(a, .inr (9, [.int md, .ref (Z.2.2 0), .int (nI 0)]))]) sz) := by
  refine Met.ofW (cc := cJ2_grow_2) (maxL := 4) (ret := (some (.array (.object "java/lang/Object")))) (by decide) rfl ?_
  intro p e s m args below meth c s₁ B hml hv
  obtain ⟨rfl, ⟨hsz, hP, hDb, hB, hX⟩, hE⟩ := hv
  have hD0 : va_D (fun _ => True) ([(a, .inr (9, [.int md, .ref (Z.2.2 0), .int (nI 0)]))]) := oD_weak hDb (fun _ _ => trivial)
  have hx := B.exec
  have hb := B.bytes
  have hr := B.returns
  have hts := atoms_spec (ws := ws_ yJ2_grow_2 cJ2_grow_2 4 (some (.array (.object "java/lang/Object")))) B.pre
  have hts : ∀ w ∈ lw_all, w.before _ s = true := fun w h => hts w (List.mem_cons_of_mem _ h)
  have hown : s.vm.findClass RJ2 = some m.cls := findClass_of_methodNamed B.named
  have hlocks := B.notSynchronized
  subst hsz
  obtain ⟨A, hAe⟩ : ∃ A, A = va_A ([(a, .inr (9, [.int md, .ref (Z.2.2 0), .int (nI 0)]))]) s.heap.size := ⟨_, rfl⟩
  have hD : va_D A ([(a, .inr (9, [.int md, .ref (Z.2.2 0), .int (nI 0)]))]) := by rw [hAe]; exact hD0.self
  have hA : ∀ q : Nat, s.heap.size ≤ q → A q := fun q h => by rw [hAe]; exact Or.inr h
  have hAZ : ∀ q : Nat, A q → Z.1 ≤ q := fun q h => oA_base hDb hB q (by rw [hAe] at h; exact h)
  have hl := lv_entry ([.ref a, .int (nI 1)]) (n := 4) (Nat.le_of_ble_eq_true rfl)
  rw [lg_entry_eq]
  generalize (lg_sl ([.ref a, .int (nI 1)]) ++ List.replicate (4 - (lg_sl ([.ref a, .int (nI 1)])).length) Slot.unset).toArray = ls at hl ⊢
  replace hl : lv_has ls 4 [(0, .ref a), (1, .int (nI 1))] := hl
  have hP0 : va_P G.1 cl0 ([(a, .inr (9, [.int md, .ref (Z.2.2 0), .int (nI 0)]))]) s.heap := hP
  refine ol_start (A := A) (fun H locs hH hS => ?_)
  rw [← hH] at hP
  clear hH
  refine lv_aload_n hx hb dJ2_grow_2_0 rfl (lv_at hl 0 rfl) ?_
  refine va_get (D := G.1) (ci := 9) (v := .ref (Z.2.2 0)) (C := RJ2) (T := TJ2) (N := 3) hx hb hts in_J2 hown hE.1.1 hP 0 rfl rfl 1 (by decide) (hts _ q116) (fun _ h9 => h9) rfl dJ2_grow_2_1 ?_
  refine va_tlen (v := nI 0) hx hb ((hB.t hE.2.2.2.1).narrow hAZ) hS rfl dJ2_grow_2_4 ?_
  refine lv_istore_n (lv' := [(2, .int (nI 0)), (0, .ref a), (1, .int (nI 1))]) hx hb dJ2_grow_2_5 rfl hl (by decide) rfl (fun ls hl => ?_)
  refine lv_iload_n hx hb dJ2_grow_2_6 rfl (lv_at hl 0 rfl) ?_
  refine ol_if_gt hx hb 0 (by omega) (tgt := 20) dJ2_grow_2_7 (by decide) (fun c_7 => ?_) (fun c_7 => ?_)
  · exact absurd c_7 (by decide)
  · refine lv_aload_n hx hb dJ2_grow_2_10 rfl (lv_at hl 1 rfl) ?_
    refine va_get (D := G.1) (ci := 9) (v := .ref (Z.2.2 0)) (C := RJ2) (T := TJ2) (N := 3) hx hb hts in_J2 hown hE.1.1 hP 0 rfl rfl 1 (by decide) (hts _ q116) (fun _ h9 => h9) rfl dJ2_grow_2_11 ?_
    refine ol_gets (G := G) (A := A) hx hb hB hAZ hE.2.2.1 hS hown (hts _ q114) (fun _ h9 => h9) dJ2_grow_2_14 ?_
    refine lv_acmp_eq (rx := some (Z.2.2 0)) (ry := some (Z.2.2 0)) (tgt := 45) hx hb dJ2_grow_2_17 (by decide) (fun c_17 => ?_) (fun c_17 => ?_)
    · refine lv_aload_n hx hb dJ2_grow_2_45 rfl (lv_at hl 1 rfl) ?_
      refine lv_bipush (v := 10) hx hb dJ2_grow_2_46 (by decide) ?_
      refine lv_iload_n hx hb dJ2_grow_2_48 rfl (lv_at hl 2 rfl) ?_
      refine va_mmax hx hb (by rw [hml]; exact hl.1.symm) hown (hts _ q237) (hts _ q199) (hts _ q65) (hts _ q200) (Nat.le_of_ble_eq_true rfl) (Nat.le_of_ble_eq_true rfl) (Nat.le_of_ble_eq_true rfl) (Nat.le_of_ble_eq_true rfl) dJ2_grow_2_49 ?_
      refine ol_top (y := nI 10) (by decide) ?_
      refine ol_newo hx hb hown (hts _ q238) hE.1 hP hD hS hA 10 (by omega) (Nat.le_of_ble_eq_true rfl) (Nat.le_of_ble_eq_true rfl) dJ2_grow_2_52 (fun qn1 H hP hD hS => ?_)
      replace hP : va_P G.1 cl0 ([(a, .inr (9, [.int md, .ref (Z.2.2 0), .int (nI 0)])), (qn1, .inl (G.2 5, 10, .inr (.inr (.inr (.inr (fun _ => none))))))]) H := hP
      replace hD : va_D A ([(a, .inr (9, [.int md, .ref (Z.2.2 0), .int (nI 0)])), (qn1, .inl (G.2 5, 10, .inr (.inr (.inr (.inr (fun _ => none))))))]) := hD
      refine lv_dup_x1 hx hb dJ2_grow_2_55 rfl rfl ?_
      refine va_put (D := G.1) (ci := 9) (v := .ref qn1) (ty := .array (.object "java/lang/Object")) (C := RJ2) (T := TJ2) (N := 3) hx hb hts in_J2 tyJ2 tyJ2_ok nmJ2 hown hE.1.1 hP hD hS 0 rfl rfl 1 (by decide) (hts _ q116) (fun _ h9 => h9) rfl (by decide +kernel) rfl rfl (Nat.le_of_ble_eq_true rfl) dJ2_grow_2_56 (fun H locs hP hD hS => ?_)
      replace hP : va_P G.1 cl0 ([(a, .inr (9, [.int md, .ref qn1, .int (nI 0)])), (qn1, .inl (G.2 5, 10, .inr (.inr (.inr (.inr (fun _ => none))))))]) H := hP
      replace hD : va_D A ([(a, .inr (9, [.int md, .ref qn1, .int (nI 0)])), (qn1, .inl (G.2 5, 10, .inr (.inr (.inr (.inr (fun _ => none))))))]) := hD
      subst hAe
      exact ol_aretE hx hb hr (Or.inr ⟨_, rfl⟩) hlocks ⟨_, rfl, rfl⟩ hP hD hS dJ2_grow_2_59
    · exact absurd c_17 (by simp)
set_option maxHeartbeats 4000000 in
set_option maxRecDepth 100000 in
theorem jm_grow01 (l : Launch) (G : oG) (Z : oZ) (a : Nat) (md : Int32)  (sz : Nat) : Met l yJ2_grow (ws_ yJ2_grow cJ2_grow 1 (some (.array (.object "java/lang/Object")))) ({ frames := 2, cells := 1, slots := 10, locals := 37 }) (oPc1 G Z [.ref a] (oPE1 G Z ([(a, .inr (9, [.int md, .ref (Z.2.2 0), .int (nI 0)]))]) sz (fun _ => True))) (oE G (fun v_ W_ => ∃ q : Nat, v_ = some (.ref q) ∧ W_ = [(a, .inr (9, [.int md, .ref q, .int (nI 0)])), (q, .inl (G.2 5, 10, .inr (.inr (.inr (.inr (fun _ => none))))))]) ([(a, .inr (9, [.int md, .ref (Z.2.2 0), .int (nI 0)]))]) sz) 1 10 (va_A ([(a, .inr (9, [.int md, .ref (Z.2.2 0), .int (nI 0)]))]) sz) := by
  refine Met.ofW (cc := cJ2_grow) (maxL := 1) (ret := (some (.array (.object "java/lang/Object")))) (by decide) rfl ?_
  intro p e s m args below meth c s₁ B hml hv
  obtain ⟨rfl, ⟨hsz, hP, hDb, hB, hX⟩, hE⟩ := hv
  have hD0 : va_D (fun _ => True) ([(a, .inr (9, [.int md, .ref (Z.2.2 0), .int (nI 0)]))]) := oD_weak hDb (fun _ _ => trivial)
  have hx := B.exec
  have hb := B.bytes
  have hr := B.returns
  have hts := atoms_spec (ws := ws_ yJ2_grow cJ2_grow 1 (some (.array (.object "java/lang/Object")))) B.pre
  have hts : ∀ w ∈ lw_all, w.before _ s = true := fun w h => hts w (List.mem_cons_of_mem _ h)
  have hown : s.vm.findClass RJ2 = some m.cls := findClass_of_methodNamed B.named
  have hlocks := B.notSynchronized
  subst hsz
  obtain ⟨A, hAe⟩ : ∃ A, A = va_A ([(a, .inr (9, [.int md, .ref (Z.2.2 0), .int (nI 0)]))]) s.heap.size := ⟨_, rfl⟩
  have hD : va_D A ([(a, .inr (9, [.int md, .ref (Z.2.2 0), .int (nI 0)]))]) := by rw [hAe]; exact hD0.self
  have hA : ∀ q : Nat, s.heap.size ≤ q → A q := fun q h => by rw [hAe]; exact Or.inr h
  have hAZ : ∀ q : Nat, A q → Z.1 ≤ q := fun q h => oA_base hDb hB q (by rw [hAe] at h; exact h)
  have hl := lv_entry ([.ref a]) (n := 1) (Nat.le_of_ble_eq_true rfl)
  rw [lg_entry_eq]
  generalize (lg_sl ([.ref a]) ++ List.replicate (1 - (lg_sl ([.ref a])).length) Slot.unset).toArray = ls at hl ⊢
  replace hl : lv_has ls 1 [(0, .ref a)] := hl
  have hP0 : va_P G.1 cl0 ([(a, .inr (9, [.int md, .ref (Z.2.2 0), .int (nI 0)]))]) s.heap := hP
  refine ol_start (A := A) (fun H locs hH hS => ?_)
  rw [← hH] at hP
  clear hH
  refine lv_aload_n hx hb dJ2_grow_0 rfl (lv_at hl 0 rfl) ?_
  refine lv_aload_n hx hb dJ2_grow_1 rfl (lv_at hl 0 rfl) ?_
  refine va_get (D := G.1) (ci := 9) (v := .int (nI 0)) (C := RJ2) (T := TJ2) (N := 3) hx hb hts in_J2 hown hE.1.1 hP 0 rfl rfl 2 (by decide) (hts _ q117) (fun _ h9 => h9) rfl dJ2_grow_2 ?_
  refine lv_iconst (v := 1) hx hb dJ2_grow_5 (by decide) ?_
  refine ol_iadd hx hb 0 1 dJ2_grow_6 ?_
  refine ol_cJ (Wr := []) (va_runV (As := [.int (nI 1)]) (rest := []) ⟨hx, hb, hml, hown, hts⟩ (jm_grow0 l G Z a md H.size) (cwV 1 hts (lw_V q191 q193 qs2 q61 q194) rfl rfl rfl (by decide +kernel) ⟨Nat.le_of_ble_eq_true rfl, Nat.le_of_ble_eq_true rfl⟩) (oPc1.preV hE (hE.1.recv (ci := 9) (hP 0 _ rfl) rfl) ⟨rfl, (hP.sub [0] rfl), oD_weak (hD.sub [0] (by decide) rfl) hAZ, hB.keep hS hAZ, trivial⟩) rfl rfl hl.1 rfl (lv_room (Nat.le_of_ble_eq_true rfl)) dJ2_grow_7 ⟨Nat.le_of_ble_eq_true rfl, Nat.le_of_ble_eq_true rfl⟩) hP hD hS hA [0] [] rfl rfl (by decide) (by decide) (fun v_ W_ H locs hΦ hP hD hS => ?_)
  obtain ⟨q, rfl, rfl⟩ := hΦ
  replace hP : va_P G.1 cl0 ([(a, .inr (9, [.int md, .ref q, .int (nI 0)])), (q, .inl (G.2 5, 10, .inr (.inr (.inr (.inr (fun _ => none))))))]) H := hP
  replace hD : va_D A ([(a, .inr (9, [.int md, .ref q, .int (nI 0)])), (q, .inl (G.2 5, 10, .inr (.inr (.inr (.inr (fun _ => none))))))]) := hD
  subst hAe
  exact ol_aretE hx hb hr (Or.inr ⟨_, rfl⟩) hlocks ⟨q, rfl, rfl⟩ hP hD hS dJ2_grow_10
set_option maxHeartbeats 4000000 in
set_option maxRecDepth 100000 in
theorem jm_addN2 (l : Launch) (G : oG) (a b n cap : Nat) (md : Int32) (xs : Nat → Option Nat) (v : Nat) (hn : n < cap) (hc : cap ≤ 65536) (sz : Nat) : Met l yJ2_add_2 (ws_ yJ2_add_2 cJ2_add_2 4 none) ({ frames := 0, cells := 0, slots := 0, locals := 0 }) (oPc G [.ref a, .ref v, .ref b, .int (nI n)] (oPE G ([(a, .inr (9, [.int md, .ref b, .int (nI n)])), (b, .inl (G.2 5, cap, .inr (.inr (.inr (.inr xs)))))]) sz (fun H => oEl G H v))) (oE G (fun v_ W_ => v_ = none ∧ W_ = [(a, .inr (9, [.int md, .ref b, .int (nI (n + 1))])), (b, .inl (G.2 5, cap, .inr (.inr (.inr (.inr (va_up xs n (some v)))))))]) ([(a, .inr (9, [.int md, .ref b, .int (nI n)])), (b, .inl (G.2 5, cap, .inr (.inr (.inr (.inr xs)))))]) sz) 0 0 (va_A ([(a, .inr (9, [.int md, .ref b, .int (nI n)])), (b, .inl (G.2 5, cap, .inr (.inr (.inr (.inr xs)))))]) sz) := by
  refine Met.ofW (cc := cJ2_add_2) (maxL := 4) (ret := none) (by decide) rfl ?_
  intro p e s m args below meth c s₁ B hml hv
  obtain ⟨rfl, ⟨hsz, hP, hD0, hX⟩, hE⟩ := hv
  have hx := B.exec
  have hb := B.bytes
  have hr := B.returns
  have hts := atoms_spec (ws := ws_ yJ2_add_2 cJ2_add_2 4 none) B.pre
  have hts : ∀ w ∈ lw_all, w.before _ s = true := fun w h => hts w (List.mem_cons_of_mem _ h)
  have hown : s.vm.findClass RJ2 = some m.cls := findClass_of_methodNamed B.named
  have hlocks := B.notSynchronized
  subst hsz
  obtain ⟨A, hAe⟩ : ∃ A, A = va_A ([(a, .inr (9, [.int md, .ref b, .int (nI n)])), (b, .inl (G.2 5, cap, .inr (.inr (.inr (.inr xs)))))]) s.heap.size := ⟨_, rfl⟩
  have hD : va_D A ([(a, .inr (9, [.int md, .ref b, .int (nI n)])), (b, .inl (G.2 5, cap, .inr (.inr (.inr (.inr xs)))))]) := by rw [hAe]; exact hD0.self
  have hA : ∀ q : Nat, s.heap.size ≤ q → A q := fun q h => by rw [hAe]; exact Or.inr h
  have hl := lv_entry ([.ref a, .ref v, .ref b, .int (nI n)]) (n := 4) (Nat.le_of_ble_eq_true rfl)
  rw [lg_entry_eq]
  generalize (lg_sl ([.ref a, .ref v, .ref b, .int (nI n)]) ++ List.replicate (4 - (lg_sl ([.ref a, .ref v, .ref b, .int (nI n)])).length) Slot.unset).toArray = ls at hl ⊢
  replace hl : lv_has ls 4 [(0, .ref a), (1, .ref v), (2, .ref b), (3, .int (nI n))] := hl
  have hP0 : va_P G.1 cl0 ([(a, .inr (9, [.int md, .ref b, .int (nI n)])), (b, .inl (G.2 5, cap, .inr (.inr (.inr (.inr xs)))))]) s.heap := hP
  refine ol_start (A := A) (fun H locs hH hS => ?_)
  have hX0 : oEl G s.heap v := hX
  have hX1 := hX0
  rw [← hH] at hP hX1
  clear hH
  refine lv_iload_n hx hb dJ2_add_2_0 rfl (lv_at hl 3 rfl) ?_
  refine lv_aload_n hx hb dJ2_add_2_1 rfl (lv_at hl 2 rfl) ?_
  refine va_alen (v := nI cap) hx hb hE.1 hP 1 5 rfl rfl rfl dJ2_add_2_2 ?_
  refine ol_icmp_ne hx hb n cap (by omega) (by omega) (tgt := 11) dJ2_add_2_3 (by decide) (fun c_3 => ?_) (fun c_3 => ?_)
  · refine lv_aload_n hx hb dJ2_add_2_11 rfl (lv_at hl 2 rfl) ?_
    refine lv_iload_n hx hb dJ2_add_2_12 rfl (lv_at hl 3 rfl) ?_
    refine lv_aload_n hx hb dJ2_add_2_13 rfl (lv_at hl 1 rfl) ?_
    refine ol_aast hx hb hE.1 hP hD hS 1 5 rfl rfl (oEl.any hE hX1) n (by omega) (by omega) dJ2_add_2_14 (fun H locs hP hD hS => ?_)
    replace hP : va_P G.1 cl0 ([(a, .inr (9, [.int md, .ref b, .int (nI n)])), (b, .inl (G.2 5, cap, .inr (.inr (.inr (.inr (va_up xs n (some v)))))))]) H := hP
    replace hD : va_D A ([(a, .inr (9, [.int md, .ref b, .int (nI n)])), (b, .inl (G.2 5, cap, .inr (.inr (.inr (.inr (va_up xs n (some v)))))))]) := hD
    refine lv_aload_n hx hb dJ2_add_2_15 rfl (lv_at hl 0 rfl) ?_
    refine lv_iload_n hx hb dJ2_add_2_16 rfl (lv_at hl 3 rfl) ?_
    refine lv_iconst (v := 1) hx hb dJ2_add_2_17 (by decide) ?_
    refine ol_iadd hx hb n 1 dJ2_add_2_18 ?_
    refine va_put (D := G.1) (ci := 9) (v := .int (nI (n + 1))) (ty := .int) (C := RJ2) (T := TJ2) (N := 3) hx hb hts in_J2 tyJ2 tyJ2_ok nmJ2 hown hE.1 hP hD hS 0 rfl rfl 2 (by decide) (hts _ q117) (fun _ h9 => h9) rfl (by decide +kernel) rfl rfl (Nat.le_of_ble_eq_true rfl) dJ2_add_2_19 (fun H locs hP hD hS => ?_)
    replace hP : va_P G.1 cl0 ([(a, .inr (9, [.int md, .ref b, .int (nI (n + 1))])), (b, .inl (G.2 5, cap, .inr (.inr (.inr (.inr (va_up xs n (some v)))))))]) H := hP
    replace hD : va_D A ([(a, .inr (9, [.int md, .ref b, .int (nI (n + 1))])), (b, .inl (G.2 5, cap, .inr (.inr (.inr (.inr (va_up xs n (some v)))))))]) := hD
    subst hAe
    exact ol_vretE hx hb hr hlocks ⟨rfl, rfl⟩ hP hD hS dJ2_add_2_22
  · exact absurd c_3 (by omega)
set_option maxHeartbeats 4000000 in
set_option maxRecDepth 100000 in
theorem jm_addN (l : Launch) (G : oG) (a b n cap : Nat) (md : Int32) (xs : Nat → Option Nat) (v : Nat) (hn : n < cap) (hc : cap ≤ 65536) (sz : Nat) : Met l yJ2_add (ws_ yJ2_add cJ2_add 2 (some .boolean)) ({ frames := 1, cells := 0, slots := 0, locals := 23 }) (oPc G [.ref a, .ref v] (oPE G ([(a, .inr (9, [.int md, .ref b, .int (nI n)])), (b, .inl (G.2 5, cap, .inr (.inr (.inr (.inr xs)))))]) sz (fun H => oEl G H v))) (oE G (fun v_ W_ => v_ = some (.int (zB true)) ∧ W_ = [(a, .inr (9, [.int (md + 1), .ref b, .int (nI (n + 1))])), (b, .inl (G.2 5, cap, .inr (.inr (.inr (.inr (va_up xs n (some v)))))))]) ([(a, .inr (9, [.int md, .ref b, .int (nI n)])), (b, .inl (G.2 5, cap, .inr (.inr (.inr (.inr xs)))))]) sz) 0 0 (va_A ([(a, .inr (9, [.int md, .ref b, .int (nI n)])), (b, .inl (G.2 5, cap, .inr (.inr (.inr (.inr xs)))))]) sz) := by
  refine Met.ofW (cc := cJ2_add) (maxL := 2) (ret := (some .boolean)) (by decide) rfl ?_
  intro p e s m args below meth c s₁ B hml hv
  obtain ⟨rfl, ⟨hsz, hP, hD0, hX⟩, hE⟩ := hv
  have hx := B.exec
  have hb := B.bytes
  have hr := B.returns
  have hts := atoms_spec (ws := ws_ yJ2_add cJ2_add 2 (some .boolean)) B.pre
  have hts : ∀ w ∈ lw_all, w.before _ s = true := fun w h => hts w (List.mem_cons_of_mem _ h)
  have hown : s.vm.findClass RJ2 = some m.cls := findClass_of_methodNamed B.named
  have hlocks := B.notSynchronized
  subst hsz
  obtain ⟨A, hAe⟩ : ∃ A, A = va_A ([(a, .inr (9, [.int md, .ref b, .int (nI n)])), (b, .inl (G.2 5, cap, .inr (.inr (.inr (.inr xs)))))]) s.heap.size := ⟨_, rfl⟩
  have hD : va_D A ([(a, .inr (9, [.int md, .ref b, .int (nI n)])), (b, .inl (G.2 5, cap, .inr (.inr (.inr (.inr xs)))))]) := by rw [hAe]; exact hD0.self
  have hA : ∀ q : Nat, s.heap.size ≤ q → A q := fun q h => by rw [hAe]; exact Or.inr h
  have hl := lv_entry ([.ref a, .ref v]) (n := 2) (Nat.le_of_ble_eq_true rfl)
  rw [lg_entry_eq]
  generalize (lg_sl ([.ref a, .ref v]) ++ List.replicate (2 - (lg_sl ([.ref a, .ref v])).length) Slot.unset).toArray = ls at hl ⊢
  replace hl : lv_has ls 2 [(0, .ref a), (1, .ref v)] := hl
  have hP0 : va_P G.1 cl0 ([(a, .inr (9, [.int md, .ref b, .int (nI n)])), (b, .inl (G.2 5, cap, .inr (.inr (.inr (.inr xs)))))]) s.heap := hP
  refine ol_start (A := A) (fun H locs hH hS => ?_)
  have hX0 : oEl G s.heap v := hX
  have hX1 := hX0
  rw [← hH] at hP hX1
  clear hH
  refine lv_aload_n hx hb dJ2_add_0 rfl (lv_at hl 0 rfl) ?_
  refine lv_dup hx hb dJ2_add_1 rfl ?_
  refine va_get (D := G.1) (ci := 9) (v := .int md) (C := RJ2) (T := TJ2) (N := 3) hx hb hts in_J2 hown hE.1 hP 0 rfl rfl 0 (by decide) (hts _ q119) (u_same (hts _ q120)) rfl dJ2_add_2 ?_
  refine lv_iconst (v := 1) hx hb dJ2_add_5 (by decide) ?_
  refine lv_iadd hx hb dJ2_add_6 ?_
  refine va_put (D := G.1) (ci := 9) (v := .int (md + 1)) (ty := .int) (C := RJ2) (T := TJ2) (N := 3) hx hb hts in_J2 tyJ2 tyJ2_ok nmJ2 hown hE.1 hP hD hS 0 rfl rfl 0 (by decide) (hts _ q119) (u_same (hts _ q120)) rfl (by decide +kernel) rfl rfl (Nat.le_of_ble_eq_true rfl) dJ2_add_7 (fun H locs hP hD hS => ?_)
  replace hP : va_P G.1 cl0 ([(a, .inr (9, [.int (md + 1), .ref b, .int (nI n)])), (b, .inl (G.2 5, cap, .inr (.inr (.inr (.inr xs)))))]) H := hP
  replace hD : va_D A ([(a, .inr (9, [.int (md + 1), .ref b, .int (nI n)])), (b, .inl (G.2 5, cap, .inr (.inr (.inr (.inr xs)))))]) := hD
  refine lv_aload_n hx hb dJ2_add_10 rfl (lv_at hl 0 rfl) ?_
  refine lv_aload_n hx hb dJ2_add_11 rfl (lv_at hl 1 rfl) ?_
  refine lv_aload_n hx hb dJ2_add_12 rfl (lv_at hl 0 rfl) ?_
  refine va_get (D := G.1) (ci := 9) (v := .ref b) (C := RJ2) (T := TJ2) (N := 3) hx hb hts in_J2 hown hE.1 hP 0 rfl rfl 1 (by decide) (hts _ q116) (fun _ h9 => h9) rfl dJ2_add_13 ?_
  refine lv_aload_n hx hb dJ2_add_16 rfl (lv_at hl 0 rfl) ?_
  refine va_get (D := G.1) (ci := 9) (v := .int (nI n)) (C := RJ2) (T := TJ2) (N := 3) hx hb hts in_J2 hown hE.1 hP 0 rfl rfl 2 (by decide) (hts _ q117) (fun _ h9 => h9) rfl dJ2_add_17 ?_
  have hv1 : oEl G H v := hX0.keep hE hP0 hP (by rw [← hAe]; exact hS) (by intro x hx; simp only [List.mem_cons, List.not_mem_nil, or_false] at hx; rcases hx with rfl | rfl; exact Or.inr ⟨_, List.mem_cons_self⟩; exact Or.inl ⟨_, rfl⟩)
  refine ol_cJ (Wr := []) (va_runV (As := [.ref v, .ref b, .int (nI n)]) (rest := []) ⟨hx, hb, hml, hown, hts⟩ (jm_addN2 l G a b n cap (md + 1) xs v hn hc H.size) (cwV 3 hts (lw_V q183 q185 qs0 q61 q186) rfl rfl rfl (by decide +kernel) ⟨Nat.le_of_ble_eq_true rfl, Nat.le_of_ble_eq_true rfl⟩) (oPc.preV hE (hE.recv (ci := 9) (hP 0 _ rfl) rfl) ⟨rfl, (hP.sub [0, 1] rfl), oD_weak (hD.sub [0, 1] (by decide) rfl) (fun _ _ => trivial), hv1⟩) rfl rfl hl.1 rfl (lv_room (Nat.le_of_ble_eq_true rfl)) dJ2_add_20 ⟨Nat.le_of_ble_eq_true rfl, Nat.le_of_ble_eq_true rfl⟩) hP hD hS hA [0, 1] [] rfl rfl (by decide) (by decide) (fun v_ W_ H locs hΦ hP hD hS => ?_)
  obtain ⟨rfl, rfl⟩ := hΦ
  replace hP : va_P G.1 cl0 ([(a, .inr (9, [.int (md + 1), .ref b, .int (nI (n + 1))])), (b, .inl (G.2 5, cap, .inr (.inr (.inr (.inr (va_up xs n (some v)))))))]) H := hP
  replace hD : va_D A ([(a, .inr (9, [.int (md + 1), .ref b, .int (nI (n + 1))])), (b, .inl (G.2 5, cap, .inr (.inr (.inr (.inr (va_up xs n (some v)))))))]) := hD
  refine lv_iconst (v := 1) hx hb dJ2_add_23 (by decide) ?_
  subst hAe
  exact ol_zretE (r := true) hx hb hr hlocks rfl ⟨rfl, rfl⟩ hP hD hS dJ2_add_24
set_option maxHeartbeats 4000000 in
set_option maxRecDepth 100000 in
theorem jm_addG2 (l : Launch) (G : oG) (Z : oZ) (a b n : Nat) (md : Int32) (xs : Nat → Option Nat) (v : Nat) (h2 : 2 ≤ n) (hn : n ≤ 40000) (sz : Nat) : Met l yJ2_add_2 (ws_ yJ2_add_2 cJ2_add_2 4 none) ({ frames := 5, cells := 1, slots := n + n / 2, locals := 117 }) (oPc1 G Z [.ref a, .ref v, .ref b, .int (nI n)] (oPE1 G Z ([(a, .inr (9, [.int md, .ref b, .int (nI n)])), (b, .inl (G.2 5, n, .inr (.inr (.inr (.inr xs)))))]) sz (fun H => oEl G H v ∧ ∀ j : Nat, j < n → ∀ z : Nat, xs j = some z → oEl G H z))) (oE G (fun v_ W_ => ∃ q : Nat, v_ = none ∧ W_ = [(a, .inr (9, [.int md, .ref q, .int (nI (n + 1))])), (q, .inl (G.2 5, n + n / 2, .inr (.inr (.inr (.inr (va_up (va_cpy xs (fun _ => none) 0 0 n) n (some v)))))))]) ([(a, .inr (9, [.int md, .ref b, .int (nI n)])), (b, .inl (G.2 5, n, .inr (.inr (.inr (.inr xs)))))]) sz) 1 (n + n / 2) (va_A ([(a, .inr (9, [.int md, .ref b, .int (nI n)])), (b, .inl (G.2 5, n, .inr (.inr (.inr (.inr xs)))))]) sz) := by
  refine Met.ofW (cc := cJ2_add_2) (maxL := 4) (ret := none) (by decide) rfl ?_
  intro p e s m args below meth c s₁ B hml hv
  obtain ⟨rfl, ⟨hsz, hP, hDb, hB, hX⟩, hE⟩ := hv
  have hD0 : va_D (fun _ => True) ([(a, .inr (9, [.int md, .ref b, .int (nI n)])), (b, .inl (G.2 5, n, .inr (.inr (.inr (.inr xs)))))]) := oD_weak hDb (fun _ _ => trivial)
  have hx := B.exec
  have hb := B.bytes
  have hr := B.returns
  have hts := atoms_spec (ws := ws_ yJ2_add_2 cJ2_add_2 4 none) B.pre
  have hts : ∀ w ∈ lw_all, w.before _ s = true := fun w h => hts w (List.mem_cons_of_mem _ h)
  have hown : s.vm.findClass RJ2 = some m.cls := findClass_of_methodNamed B.named
  have hlocks := B.notSynchronized
  subst hsz
  obtain ⟨A, hAe⟩ : ∃ A, A = va_A ([(a, .inr (9, [.int md, .ref b, .int (nI n)])), (b, .inl (G.2 5, n, .inr (.inr (.inr (.inr xs)))))]) s.heap.size := ⟨_, rfl⟩
  have hD : va_D A ([(a, .inr (9, [.int md, .ref b, .int (nI n)])), (b, .inl (G.2 5, n, .inr (.inr (.inr (.inr xs)))))]) := by rw [hAe]; exact hD0.self
  have hA : ∀ q : Nat, s.heap.size ≤ q → A q := fun q h => by rw [hAe]; exact Or.inr h
  have hAZ : ∀ q : Nat, A q → Z.1 ≤ q := fun q h => oA_base hDb hB q (by rw [hAe] at h; exact h)
  have hl := lv_entry ([.ref a, .ref v, .ref b, .int (nI n)]) (n := 4) (Nat.le_of_ble_eq_true rfl)
  rw [lg_entry_eq]
  generalize (lg_sl ([.ref a, .ref v, .ref b, .int (nI n)]) ++ List.replicate (4 - (lg_sl ([.ref a, .ref v, .ref b, .int (nI n)])).length) Slot.unset).toArray = ls at hl ⊢
  replace hl : lv_has ls 4 [(0, .ref a), (1, .ref v), (2, .ref b), (3, .int (nI n))] := hl
  have hP0 : va_P G.1 cl0 ([(a, .inr (9, [.int md, .ref b, .int (nI n)])), (b, .inl (G.2 5, n, .inr (.inr (.inr (.inr xs)))))]) s.heap := hP
  refine ol_start (A := A) (fun H locs hH hS => ?_)
  have hX0 : oEl G s.heap v ∧ ∀ j : Nat, j < n → ∀ z : Nat, xs j = some z → oEl G s.heap z := hX
  have hX1 := hX0
  rw [← hH] at hP hX1
  clear hH
  refine lv_iload_n hx hb dJ2_add_2_0 rfl (lv_at hl 3 rfl) ?_
  refine lv_aload_n hx hb dJ2_add_2_1 rfl (lv_at hl 2 rfl) ?_
  refine va_alen (v := nI n) hx hb hE.1.1 hP 1 5 rfl rfl rfl dJ2_add_2_2 ?_
  refine ol_icmp_ne hx hb n n (by omega) (by omega) (tgt := 11) dJ2_add_2_3 (by decide) (fun c_3 => ?_) (fun c_3 => ?_)
  · exact absurd rfl c_3
  · refine lv_aload_n hx hb dJ2_add_2_6 rfl (lv_at hl 0 rfl) ?_
    refine ol_cJ (Wr := []) (va_runV (As := []) (rest := []) ⟨hx, hb, hml, hown, hts⟩ (jm_growG1 l G Z a b n md xs h2 hn H.size) (cwV 0 hts (lw_V q187 q189 qs1 q61 q190) rfl rfl rfl (by decide +kernel) ⟨Nat.le_of_ble_eq_true rfl, Nat.le_of_ble_eq_true rfl⟩) (oPc1.preV hE (hE.1.recv (ci := 9) (hP 0 _ rfl) rfl) ⟨rfl, (hP.sub [0, 1] rfl), oD_weak (hD.sub [0, 1] (by decide) rfl) hAZ, hB.keep hS hAZ, hX1.2⟩) rfl rfl hl.1 rfl (lv_room (Nat.le_of_ble_eq_true rfl)) dJ2_add_2_7 ⟨(by show 0 + 1 ≤ 1; omega), (by show 0 + (n + n / 2) ≤ n + n / 2; omega)⟩) hP hD hS hA [0, 1] [] rfl rfl (by decide) (by decide) (fun v_ W_ H locs hΦ hP hD hS => ?_)
    obtain ⟨q, rfl, rfl⟩ := hΦ
    replace hP : va_P G.1 cl0 ([(a, .inr (9, [.int md, .ref q, .int (nI n)])), (q, .inl (G.2 5, n + n / 2, .inr (.inr (.inr (.inr (va_cpy xs (fun _ => none) 0 0 n))))))]) H := hP
    replace hD : va_D A ([(a, .inr (9, [.int md, .ref q, .int (nI n)])), (q, .inl (G.2 5, n + n / 2, .inr (.inr (.inr (.inr (va_cpy xs (fun _ => none) 0 0 n))))))]) := hD
    refine lv_astore_n (lv' := [(2, .ref q), (0, .ref a), (1, .ref v), (3, .int (nI n))]) hx hb dJ2_add_2_10 rfl hl (by decide) rfl (fun ls hl => ?_)
    refine lv_aload_n hx hb dJ2_add_2_11 rfl (lv_at hl 0 rfl) ?_
    refine lv_iload_n hx hb dJ2_add_2_12 rfl (lv_at hl 3 rfl) ?_
    refine lv_aload_n hx hb dJ2_add_2_13 rfl (lv_at hl 2 rfl) ?_
    have hv1 : oEl G H v := hX0.1.keep hE.1 hP0 hP (by rw [← hAe]; exact hS) (by intro x hx; simp only [List.mem_cons, List.not_mem_nil, or_false] at hx; rcases hx with rfl | rfl; exact Or.inr ⟨_, List.mem_cons_self⟩; exact Or.inl ⟨_, rfl⟩)
    refine ol_aast hx hb hE.1.1 hP hD hS 1 5 rfl rfl (oEl.any hE.1 hv1) n (by omega) (by omega) dJ2_add_2_14 (fun H locs hP hD hS => ?_)
    replace hP : va_P G.1 cl0 ([(a, .inr (9, [.int md, .ref q, .int (nI n)])), (q, .inl (G.2 5, n + n / 2, .inr (.inr (.inr (.inr (va_up (va_cpy xs (fun _ => none) 0 0 n) n (some v)))))))]) H := hP
    replace hD : va_D A ([(a, .inr (9, [.int md, .ref q, .int (nI n)])), (q, .inl (G.2 5, n + n / 2, .inr (.inr (.inr (.inr (va_up (va_cpy xs (fun _ => none) 0 0 n) n (some v)))))))]) := hD
    refine lv_aload_n hx hb dJ2_add_2_15 rfl (lv_at hl 1 rfl) ?_
    refine lv_iload_n hx hb dJ2_add_2_16 rfl (lv_at hl 3 rfl) ?_
    refine lv_iconst (v := 1) hx hb dJ2_add_2_17 (by decide) ?_
    refine ol_iadd hx hb n 1 dJ2_add_2_18 ?_
    refine va_put (D := G.1) (ci := 9) (v := .int (nI (n + 1))) (ty := .int) (C := RJ2) (T := TJ2) (N := 3) hx hb hts in_J2 tyJ2 tyJ2_ok nmJ2 hown hE.1.1 hP hD hS 0 rfl rfl 2 (by decide) (hts _ q117) (fun _ h9 => h9) rfl (by decide +kernel) rfl rfl (Nat.le_of_ble_eq_true rfl) dJ2_add_2_19 (fun H locs hP hD hS => ?_)
    replace hP : va_P G.1 cl0 ([(a, .inr (9, [.int md, .ref q, .int (nI (n + 1))])), (q, .inl (G.2 5, n + n / 2, .inr (.inr (.inr (.inr (va_up (va_cpy xs (fun _ => none) 0 0 n) n (some v)))))))]) H := hP
    replace hD : va_D A ([(a, .inr (9, [.int md, .ref q, .int (nI (n + 1))])), (q, .inl (G.2 5, n + n / 2, .inr (.inr (.inr (.inr (va_up (va_cpy xs (fun _ => none) 0 0 n) n (some v)))))))]) := hD
    subst hAe
    refine ol_cnt (cells' := 1) (slots' := n + n / 2) (by omega) (by omega) ?_
    exact ol_vretE hx hb hr hlocks ⟨q, rfl, rfl⟩ hP hD hS dJ2_add_2_22
set_option maxHeartbeats 4000000 in
set_option maxRecDepth 100000 in
theorem jm_addG (l : Launch) (G : oG) (Z : oZ) (a b n : Nat) (md : Int32) (xs : Nat → Option Nat) (v : Nat) (h2 : 2 ≤ n) (hn : n ≤ 40000) (sz : Nat) : Met l yJ2_add (ws_ yJ2_add cJ2_add 2 (some .boolean)) ({ frames := 6, cells := 1, slots := n + n / 2, locals := 140 }) (oPc1 G Z [.ref a, .ref v] (oPE1 G Z ([(a, .inr (9, [.int md, .ref b, .int (nI n)])), (b, .inl (G.2 5, n, .inr (.inr (.inr (.inr xs)))))]) sz (fun H => oEl G H v ∧ ∀ j : Nat, j < n → ∀ z : Nat, xs j = some z → oEl G H z))) (oE G (fun v_ W_ => ∃ q : Nat, v_ = some (.int (zB true)) ∧ W_ = [(a, .inr (9, [.int (md + 1), .ref q, .int (nI (n + 1))])), (q, .inl (G.2 5, n + n / 2, .inr (.inr (.inr (.inr (va_up (va_cpy xs (fun _ => none) 0 0 n) n (some v)))))))]) ([(a, .inr (9, [.int md, .ref b, .int (nI n)])), (b, .inl (G.2 5, n, .inr (.inr (.inr (.inr xs)))))]) sz) 1 (n + n / 2) (va_A ([(a, .inr (9, [.int md, .ref b, .int (nI n)])), (b, .inl (G.2 5, n, .inr (.inr (.inr (.inr xs)))))]) sz) := by
  refine Met.ofW (cc := cJ2_add) (maxL := 2) (ret := (some .boolean)) (by decide) rfl ?_
  intro p e s m args below meth c s₁ B hml hv
  obtain ⟨rfl, ⟨hsz, hP, hDb, hB, hX⟩, hE⟩ := hv
  have hD0 : va_D (fun _ => True) ([(a, .inr (9, [.int md, .ref b, .int (nI n)])), (b, .inl (G.2 5, n, .inr (.inr (.inr (.inr xs)))))]) := oD_weak hDb (fun _ _ => trivial)
  have hx := B.exec
  have hb := B.bytes
  have hr := B.returns
  have hts := atoms_spec (ws := ws_ yJ2_add cJ2_add 2 (some .boolean)) B.pre
  have hts : ∀ w ∈ lw_all, w.before _ s = true := fun w h => hts w (List.mem_cons_of_mem _ h)
  have hown : s.vm.findClass RJ2 = some m.cls := findClass_of_methodNamed B.named
  have hlocks := B.notSynchronized
  subst hsz
  obtain ⟨A, hAe⟩ : ∃ A, A = va_A ([(a, .inr (9, [.int md, .ref b, .int (nI n)])), (b, .inl (G.2 5, n, .inr (.inr (.inr (.inr xs)))))]) s.heap.size := ⟨_, rfl⟩
  have hD : va_D A ([(a, .inr (9, [.int md, .ref b, .int (nI n)])), (b, .inl (G.2 5, n, .inr (.inr (.inr (.inr xs)))))]) := by rw [hAe]; exact hD0.self
  have hA : ∀ q : Nat, s.heap.size ≤ q → A q := fun q h => by rw [hAe]; exact Or.inr h
  have hAZ : ∀ q : Nat, A q → Z.1 ≤ q := fun q h => oA_base hDb hB q (by rw [hAe] at h; exact h)
  have hl := lv_entry ([.ref a, .ref v]) (n := 2) (Nat.le_of_ble_eq_true rfl)
  rw [lg_entry_eq]
  generalize (lg_sl ([.ref a, .ref v]) ++ List.replicate (2 - (lg_sl ([.ref a, .ref v])).length) Slot.unset).toArray = ls at hl ⊢
  replace hl : lv_has ls 2 [(0, .ref a), (1, .ref v)] := hl
  have hP0 : va_P G.1 cl0 ([(a, .inr (9, [.int md, .ref b, .int (nI n)])), (b, .inl (G.2 5, n, .inr (.inr (.inr (.inr xs)))))]) s.heap := hP
  refine ol_start (A := A) (fun H locs hH hS => ?_)
  have hX0 : oEl G s.heap v ∧ ∀ j : Nat, j < n → ∀ z : Nat, xs j = some z → oEl G s.heap z := hX
  have hX1 := hX0
  rw [← hH] at hP hX1
  clear hH
  refine lv_aload_n hx hb dJ2_add_0 rfl (lv_at hl 0 rfl) ?_
  refine lv_dup hx hb dJ2_add_1 rfl ?_
  refine va_get (D := G.1) (ci := 9) (v := .int md) (C := RJ2) (T := TJ2) (N := 3) hx hb hts in_J2 hown hE.1.1 hP 0 rfl rfl 0 (by decide) (hts _ q119) (u_same (hts _ q120)) rfl dJ2_add_2 ?_
  refine lv_iconst (v := 1) hx hb dJ2_add_5 (by decide) ?_
  refine lv_iadd hx hb dJ2_add_6 ?_
  refine va_put (D := G.1) (ci := 9) (v := .int (md + 1)) (ty := .int) (C := RJ2) (T := TJ2) (N := 3) hx hb hts in_J2 tyJ2 tyJ2_ok nmJ2 hown hE.1.1 hP hD hS 0 rfl rfl 0 (by decide) (hts _ q119) (u_same (hts _ q120)) rfl (by decide +kernel) rfl rfl (Nat.le_of_ble_eq_true rfl) dJ2_add_7 (fun H locs hP hD hS => ?_)
  replace hP : va_P G.1 cl0 ([(a, .inr (9, [.int (md + 1), .ref b, .int (nI n)])), (b, .inl (G.2 5, n, .inr (.inr (.inr (.inr xs)))))]) H := hP
  replace hD : va_D A ([(a, .inr (9, [.int (md + 1), .ref b, .int (nI n)])), (b, .inl (G.2 5, n, .inr (.inr (.inr (.inr xs)))))]) := hD
  refine lv_aload_n hx hb dJ2_add_10 rfl (lv_at hl 0 rfl) ?_
  refine lv_aload_n hx hb dJ2_add_11 rfl (lv_at hl 1 rfl) ?_
  refine lv_aload_n hx hb dJ2_add_12 rfl (lv_at hl 0 rfl) ?_
  refine va_get (D := G.1) (ci := 9) (v := .ref b) (C := RJ2) (T := TJ2) (N := 3) hx hb hts in_J2 hown hE.1.1 hP 0 rfl rfl 1 (by decide) (hts _ q116) (fun _ h9 => h9) rfl dJ2_add_13 ?_
  refine lv_aload_n hx hb dJ2_add_16 rfl (lv_at hl 0 rfl) ?_
  refine va_get (D := G.1) (ci := 9) (v := .int (nI n)) (C := RJ2) (T := TJ2) (N := 3) hx hb hts in_J2 hown hE.1.1 hP 0 rfl rfl 2 (by decide) (hts _ q117) (fun _ h9 => h9) rfl dJ2_add_17 ?_
  have hk : ∀ z, oEl G s.heap z → oEl G H z := fun z hz => hz.keep hE.1 hP0 hP (by rw [← hAe]; exact hS) (by intro x hx; simp only [List.mem_cons, List.not_mem_nil, or_false] at hx; rcases hx with rfl | rfl; exact Or.inr ⟨_, List.mem_cons_self⟩; exact Or.inl ⟨_, rfl⟩)
  refine ol_cJ (Wr := []) (va_runV (As := [.ref v, .ref b, .int (nI n)]) (rest := []) ⟨hx, hb, hml, hown, hts⟩ (jm_addG2 l G Z a b n (md + 1) xs v h2 hn H.size) (cwV 3 hts (lw_V q183 q185 qs0 q61 q186) rfl rfl rfl (by decide +kernel) ⟨Nat.le_of_ble_eq_true rfl, Nat.le_of_ble_eq_true rfl⟩) (oPc1.preV hE (hE.1.recv (ci := 9) (hP 0 _ rfl) rfl) ⟨rfl, (hP.sub [0, 1] rfl), oD_weak (hD.sub [0, 1] (by decide) rfl) hAZ, hB.keep hS hAZ, ⟨hk v hX0.1, fun j hj z hz => hk z (hX0.2 j hj z hz)⟩⟩) rfl rfl hl.1 rfl (lv_room (Nat.le_of_ble_eq_true rfl)) dJ2_add_20 ⟨(by show 0 + 1 ≤ 1; omega), (by show 0 + (n + n / 2) ≤ n + n / 2; omega)⟩) hP hD hS hA [0, 1] [] rfl rfl (by decide) (by decide) (fun v_ W_ H locs hΦ hP hD hS => ?_)
  obtain ⟨q, rfl, rfl⟩ := hΦ
  replace hP : va_P G.1 cl0 ([(a, .inr (9, [.int (md + 1), .ref q, .int (nI (n + 1))])), (q, .inl (G.2 5, n + n / 2, .inr (.inr (.inr (.inr (va_up (va_cpy xs (fun _ => none) 0 0 n) n (some v)))))))]) H := hP
  replace hD : va_D A ([(a, .inr (9, [.int (md + 1), .ref q, .int (nI (n + 1))])), (q, .inl (G.2 5, n + n / 2, .inr (.inr (.inr (.inr (va_up (va_cpy xs (fun _ => none) 0 0 n) n (some v)))))))]) := hD
  refine lv_iconst (v := 1) hx hb dJ2_add_23 (by decide) ?_
  subst hAe
  refine ol_cnt (cells' := 1) (slots' := n + n / 2) (by omega) (by omega) ?_
  exact ol_zretE (r := true) hx hb hr hlocks rfl ⟨q, rfl, rfl⟩ hP hD hS dJ2_add_24
set_option maxHeartbeats 4000000 in
set_option maxRecDepth 100000 in
theorem jm_add02 (l : Launch) (G : oG) (Z : oZ) (a : Nat) (md : Int32) (v : Nat)  (sz : Nat) : Met l yJ2_add_2 (ws_ yJ2_add_2 cJ2_add_2 4 none) ({ frames := 3, cells := 1, slots := 10, locals := 57 }) (oPc1 G Z [.ref a, .ref v, .ref (Z.2.2 0), .int (nI 0)] (oPE1 G Z ([(a, .inr (9, [.int md, .ref (Z.2.2 0), .int (nI 0)]))]) sz (fun H => oEl G H v))) (oE G (fun v_ W_ => ∃ q : Nat, v_ = none ∧ W_ = [(a, .inr (9, [.int md, .ref q, .int (nI 1)])), (q, .inl (G.2 5, 10, .inr (.inr (.inr (.inr (va_up (fun _ => none) 0 (some v)))))))]) ([(a, .inr (9, [.int md, .ref (Z.2.2 0), .int (nI 0)]))]) sz) 1 10 (va_A ([(a, .inr (9, [.int md, .ref (Z.2.2 0), .int (nI 0)]))]) sz) := by
  refine Met.ofW (cc := cJ2_add_2) (maxL := 4) (ret := none) (by decide) rfl ?_
  intro p e s m args below meth c s₁ B hml hv
  obtain ⟨rfl, ⟨hsz, hP, hDb, hB, hX⟩, hE⟩ := hv
  have hD0 : va_D (fun _ => True) ([(a, .inr (9, [.int md, .ref (Z.2.2 0), .int (nI 0)]))]) := oD_weak hDb (fun _ _ => trivial)
  have hx := B.exec
  have hb := B.bytes
  have hr := B.returns
  have hts := atoms_spec (ws := ws_ yJ2_add_2 cJ2_add_2 4 none) B.pre
  have hts : ∀ w ∈ lw_all, w.before _ s = true := fun w h => hts w (List.mem_cons_of_mem _ h)
  have hown : s.vm.findClass RJ2 = some m.cls := findClass_of_methodNamed B.named
  have hlocks := B.notSynchronized
  subst hsz
  obtain ⟨A, hAe⟩ : ∃ A, A = va_A ([(a, .inr (9, [.int md, .ref (Z.2.2 0), .int (nI 0)]))]) s.heap.size := ⟨_, rfl⟩
  have hD : va_D A ([(a, .inr (9, [.int md, .ref (Z.2.2 0), .int (nI 0)]))]) := by rw [hAe]; exact hD0.self
  have hA : ∀ q : Nat, s.heap.size ≤ q → A q := fun q h => by rw [hAe]; exact Or.inr h
  have hAZ : ∀ q : Nat, A q → Z.1 ≤ q := fun q h => oA_base hDb hB q (by rw [hAe] at h; exact h)
  have hl := lv_entry ([.ref a, .ref v, .ref (Z.2.2 0), .int (nI 0)]) (n := 4) (Nat.le_of_ble_eq_true rfl)
  rw [lg_entry_eq]
  generalize (lg_sl ([.ref a, .ref v, .ref (Z.2.2 0), .int (nI 0)]) ++ List.replicate (4 - (lg_sl ([.ref a, .ref v, .ref (Z.2.2 0), .int (nI 0)])).length) Slot.unset).toArray = ls at hl ⊢
  replace hl : lv_has ls 4 [(0, .ref a), (1, .ref v), (2, .ref (Z.2.2 0)), (3, .int (nI 0))] := hl
  have hP0 : va_P G.1 cl0 ([(a, .inr (9, [.int md, .ref (Z.2.2 0), .int (nI 0)]))]) s.heap := hP
  refine ol_start (A := A) (fun H locs hH hS => ?_)
  have hX0 : oEl G s.heap v := hX
  have hX1 := hX0
  rw [← hH] at hP hX1
  clear hH
  refine lv_iload_n hx hb dJ2_add_2_0 rfl (lv_at hl 3 rfl) ?_
  refine lv_aload_n hx hb dJ2_add_2_1 rfl (lv_at hl 2 rfl) ?_
  refine va_tlen (v := nI 0) hx hb ((hB.t hE.2.2.2.1).narrow hAZ) hS rfl dJ2_add_2_2 ?_
  refine ol_icmp_ne hx hb 0 0 (by omega) (by omega) (tgt := 11) dJ2_add_2_3 (by decide) (fun c_3 => ?_) (fun c_3 => ?_)
  · exact absurd rfl c_3
  · refine lv_aload_n hx hb dJ2_add_2_6 rfl (lv_at hl 0 rfl) ?_
    refine ol_cJ (Wr := []) (va_runV (As := []) (rest := []) ⟨hx, hb, hml, hown, hts⟩ (jm_grow01 l G Z a md H.size) (cwV 0 hts (lw_V q187 q189 qs1 q61 q190) rfl rfl rfl (by decide +kernel) ⟨Nat.le_of_ble_eq_true rfl, Nat.le_of_ble_eq_true rfl⟩) (oPc1.preV hE (hE.1.recv (ci := 9) (hP 0 _ rfl) rfl) ⟨rfl, (hP.sub [0] rfl), oD_weak (hD.sub [0] (by decide) rfl) hAZ, hB.keep hS hAZ, trivial⟩) rfl rfl hl.1 rfl (lv_room (Nat.le_of_ble_eq_true rfl)) dJ2_add_2_7 ⟨Nat.le_of_ble_eq_true rfl, Nat.le_of_ble_eq_true rfl⟩) hP hD hS hA [0] [] rfl rfl (by decide) (by decide) (fun v_ W_ H locs hΦ hP hD hS => ?_)
    obtain ⟨q, rfl, rfl⟩ := hΦ
    replace hP : va_P G.1 cl0 ([(a, .inr (9, [.int md, .ref q, .int (nI 0)])), (q, .inl (G.2 5, 10, .inr (.inr (.inr (.inr (fun _ => none))))))]) H := hP
    replace hD : va_D A ([(a, .inr (9, [.int md, .ref q, .int (nI 0)])), (q, .inl (G.2 5, 10, .inr (.inr (.inr (.inr (fun _ => none))))))]) := hD
    refine lv_astore_n (lv' := [(2, .ref q), (0, .ref a), (1, .ref v), (3, .int (nI 0))]) hx hb dJ2_add_2_10 rfl hl (by decide) rfl (fun ls hl => ?_)
    refine lv_aload_n hx hb dJ2_add_2_11 rfl (lv_at hl 0 rfl) ?_
    refine lv_iload_n hx hb dJ2_add_2_12 rfl (lv_at hl 3 rfl) ?_
    refine lv_aload_n hx hb dJ2_add_2_13 rfl (lv_at hl 2 rfl) ?_
    have hv1 : oEl G H v := hX0.keep hE.1 hP0 hP (by rw [← hAe]; exact hS) (by intro x hx; simp only [List.mem_cons, List.not_mem_nil, or_false] at hx; rcases hx with rfl; exact Or.inr ⟨_, List.mem_cons_self⟩)
    refine ol_aast hx hb hE.1.1 hP hD hS 1 5 rfl rfl (oEl.any hE.1 hv1) 0 (by decide) (by omega) dJ2_add_2_14 (fun H locs hP hD hS => ?_)
    replace hP : va_P G.1 cl0 ([(a, .inr (9, [.int md, .ref q, .int (nI 0)])), (q, .inl (G.2 5, 10, .inr (.inr (.inr (.inr (va_up (fun _ => none) 0 (some v)))))))]) H := hP
    replace hD : va_D A ([(a, .inr (9, [.int md, .ref q, .int (nI 0)])), (q, .inl (G.2 5, 10, .inr (.inr (.inr (.inr (va_up (fun _ => none) 0 (some v)))))))]) := hD
    refine lv_aload_n hx hb dJ2_add_2_15 rfl (lv_at hl 1 rfl) ?_
    refine lv_iload_n hx hb dJ2_add_2_16 rfl (lv_at hl 3 rfl) ?_
    refine lv_iconst (v := 1) hx hb dJ2_add_2_17 (by decide) ?_
    refine ol_iadd hx hb 0 1 dJ2_add_2_18 ?_
    refine va_put (D := G.1) (ci := 9) (v := .int (nI 1)) (ty := .int) (C := RJ2) (T := TJ2) (N := 3) hx hb hts in_J2 tyJ2 tyJ2_ok nmJ2 hown hE.1.1 hP hD hS 0 rfl rfl 2 (by decide) (hts _ q117) (fun _ h9 => h9) rfl (by decide +kernel) rfl rfl (Nat.le_of_ble_eq_true rfl) dJ2_add_2_19 (fun H locs hP hD hS => ?_)
    replace hP : va_P G.1 cl0 ([(a, .inr (9, [.int md, .ref q, .int (nI 1)])), (q, .inl (G.2 5, 10, .inr (.inr (.inr (.inr (va_up (fun _ => none) 0 (some v)))))))]) H := hP
    replace hD : va_D A ([(a, .inr (9, [.int md, .ref q, .int (nI 1)])), (q, .inl (G.2 5, 10, .inr (.inr (.inr (.inr (va_up (fun _ => none) 0 (some v)))))))]) := hD
    subst hAe
    exact ol_vretE hx hb hr hlocks ⟨q, rfl, rfl⟩ hP hD hS dJ2_add_2_22
set_option maxHeartbeats 4000000 in
set_option maxRecDepth 100000 in
theorem jm_add0 (l : Launch) (G : oG) (Z : oZ) (a : Nat) (md : Int32) (v : Nat)  (sz : Nat) : Met l yJ2_add (ws_ yJ2_add cJ2_add 2 (some .boolean)) ({ frames := 4, cells := 1, slots := 10, locals := 80 }) (oPc1 G Z [.ref a, .ref v] (oPE1 G Z ([(a, .inr (9, [.int md, .ref (Z.2.2 0), .int (nI 0)]))]) sz (fun H => oEl G H v))) (oE G (fun v_ W_ => ∃ q : Nat, v_ = some (.int (zB true)) ∧ W_ = [(a, .inr (9, [.int (md + 1), .ref q, .int (nI 1)])), (q, .inl (G.2 5, 10, .inr (.inr (.inr (.inr (va_up (fun _ => none) 0 (some v)))))))]) ([(a, .inr (9, [.int md, .ref (Z.2.2 0), .int (nI 0)]))]) sz) 1 10 (va_A ([(a, .inr (9, [.int md, .ref (Z.2.2 0), .int (nI 0)]))]) sz) := by
  refine Met.ofW (cc := cJ2_add) (maxL := 2) (ret := (some .boolean)) (by decide) rfl ?_
  intro p e s m args below meth c s₁ B hml hv
  obtain ⟨rfl, ⟨hsz, hP, hDb, hB, hX⟩, hE⟩ := hv
  have hD0 : va_D (fun _ => True) ([(a, .inr (9, [.int md, .ref (Z.2.2 0), .int (nI 0)]))]) := oD_weak hDb (fun _ _ => trivial)
  have hx := B.exec
  have hb := B.bytes
  have hr := B.returns
  have hts := atoms_spec (ws := ws_ yJ2_add cJ2_add 2 (some .boolean)) B.pre
  have hts : ∀ w ∈ lw_all, w.before _ s = true := fun w h => hts w (List.mem_cons_of_mem _ h)
  have hown : s.vm.findClass RJ2 = some m.cls := findClass_of_methodNamed B.named
  have hlocks := B.notSynchronized
  subst hsz
  obtain ⟨A, hAe⟩ : ∃ A, A = va_A ([(a, .inr (9, [.int md, .ref (Z.2.2 0), .int (nI 0)]))]) s.heap.size := ⟨_, rfl⟩
  have hD : va_D A ([(a, .inr (9, [.int md, .ref (Z.2.2 0), .int (nI 0)]))]) := by rw [hAe]; exact hD0.self
  have hA : ∀ q : Nat, s.heap.size ≤ q → A q := fun q h => by rw [hAe]; exact Or.inr h
  have hAZ : ∀ q : Nat, A q → Z.1 ≤ q := fun q h => oA_base hDb hB q (by rw [hAe] at h; exact h)
  have hl := lv_entry ([.ref a, .ref v]) (n := 2) (Nat.le_of_ble_eq_true rfl)
  rw [lg_entry_eq]
  generalize (lg_sl ([.ref a, .ref v]) ++ List.replicate (2 - (lg_sl ([.ref a, .ref v])).length) Slot.unset).toArray = ls at hl ⊢
  replace hl : lv_has ls 2 [(0, .ref a), (1, .ref v)] := hl
  have hP0 : va_P G.1 cl0 ([(a, .inr (9, [.int md, .ref (Z.2.2 0), .int (nI 0)]))]) s.heap := hP
  refine ol_start (A := A) (fun H locs hH hS => ?_)
  have hX0 : oEl G s.heap v := hX
  have hX1 := hX0
  rw [← hH] at hP hX1
  clear hH
  refine lv_aload_n hx hb dJ2_add_0 rfl (lv_at hl 0 rfl) ?_
  refine lv_dup hx hb dJ2_add_1 rfl ?_
  refine va_get (D := G.1) (ci := 9) (v := .int md) (C := RJ2) (T := TJ2) (N := 3) hx hb hts in_J2 hown hE.1.1 hP 0 rfl rfl 0 (by decide) (hts _ q119) (u_same (hts _ q120)) rfl dJ2_add_2 ?_
  refine lv_iconst (v := 1) hx hb dJ2_add_5 (by decide) ?_
  refine lv_iadd hx hb dJ2_add_6 ?_
  refine va_put (D := G.1) (ci := 9) (v := .int (md + 1)) (ty := .int) (C := RJ2) (T := TJ2) (N := 3) hx hb hts in_J2 tyJ2 tyJ2_ok nmJ2 hown hE.1.1 hP hD hS 0 rfl rfl 0 (by decide) (hts _ q119) (u_same (hts _ q120)) rfl (by decide +kernel) rfl rfl (Nat.le_of_ble_eq_true rfl) dJ2_add_7 (fun H locs hP hD hS => ?_)
  replace hP : va_P G.1 cl0 ([(a, .inr (9, [.int (md + 1), .ref (Z.2.2 0), .int (nI 0)]))]) H := hP
  replace hD : va_D A ([(a, .inr (9, [.int (md + 1), .ref (Z.2.2 0), .int (nI 0)]))]) := hD
  refine lv_aload_n hx hb dJ2_add_10 rfl (lv_at hl 0 rfl) ?_
  refine lv_aload_n hx hb dJ2_add_11 rfl (lv_at hl 1 rfl) ?_
  refine lv_aload_n hx hb dJ2_add_12 rfl (lv_at hl 0 rfl) ?_
  refine va_get (D := G.1) (ci := 9) (v := .ref (Z.2.2 0)) (C := RJ2) (T := TJ2) (N := 3) hx hb hts in_J2 hown hE.1.1 hP 0 rfl rfl 1 (by decide) (hts _ q116) (fun _ h9 => h9) rfl dJ2_add_13 ?_
  refine lv_aload_n hx hb dJ2_add_16 rfl (lv_at hl 0 rfl) ?_
  refine va_get (D := G.1) (ci := 9) (v := .int (nI 0)) (C := RJ2) (T := TJ2) (N := 3) hx hb hts in_J2 hown hE.1.1 hP 0 rfl rfl 2 (by decide) (hts _ q117) (fun _ h9 => h9) rfl dJ2_add_17 ?_
  have hv1 : oEl G H v := hX0.keep hE.1 hP0 hP (by rw [← hAe]; exact hS) (by intro x hx; simp only [List.mem_cons, List.not_mem_nil, or_false] at hx; rcases hx with rfl; exact Or.inr ⟨_, List.mem_cons_self⟩)
  refine ol_cJ (Wr := []) (va_runV (As := [.ref v, .ref (Z.2.2 0), .int (nI 0)]) (rest := []) ⟨hx, hb, hml, hown, hts⟩ (jm_add02 l G Z a (md + 1) v H.size) (cwV 3 hts (lw_V q183 q185 qs0 q61 q186) rfl rfl rfl (by decide +kernel) ⟨Nat.le_of_ble_eq_true rfl, Nat.le_of_ble_eq_true rfl⟩) (oPc1.preV hE (hE.1.recv (ci := 9) (hP 0 _ rfl) rfl) ⟨rfl, (hP.sub [0] rfl), oD_weak (hD.sub [0] (by decide) rfl) hAZ, hB.keep hS hAZ, hv1⟩) rfl rfl hl.1 rfl (lv_room (Nat.le_of_ble_eq_true rfl)) dJ2_add_20 ⟨Nat.le_of_ble_eq_true rfl, Nat.le_of_ble_eq_true rfl⟩) hP hD hS hA [0] [] rfl rfl (by decide) (by decide) (fun v_ W_ H locs hΦ hP hD hS => ?_)
  obtain ⟨q, rfl, rfl⟩ := hΦ
  replace hP : va_P G.1 cl0 ([(a, .inr (9, [.int (md + 1), .ref q, .int (nI 1)])), (q, .inl (G.2 5, 10, .inr (.inr (.inr (.inr (va_up (fun _ => none) 0 (some v)))))))]) H := hP
  replace hD : va_D A ([(a, .inr (9, [.int (md + 1), .ref q, .int (nI 1)])), (q, .inl (G.2 5, 10, .inr (.inr (.inr (.inr (va_up (fun _ => none) 0 (some v)))))))]) := hD
  refine lv_iconst (v := 1) hx hb dJ2_add_23 (by decide) ?_
  subst hAe
  exact ol_zretE (r := true) hx hb hr hlocks rfl ⟨q, rfl, rfl⟩ hP hD hS dJ2_add_24
