/-! THE JDK: lists, what is read of them -/
set_option maxHeartbeats 4000000 in
set_option maxRecDepth 100000 in
theorem jk_check3 (l : Launch) (G : oG) (i n : Nat) (hi : i < n) (hn : n ≤ 65536) : Met l yJ11_checkIndex (ws_ yJ11_checkIndex cJ11_checkIndex 3 (some .int)) ({ frames := 0, cells := 0, slots := 0, locals := 0 }) (oPc G [.int (nI i), .int (nI n), .null] (fun _ => True)) (oR (some (.int (nI i)))) 0 0 (fun _ => False) := by
  refine Met.ofW (cc := cJ11_checkIndex) (maxL := 3) (ret := (some .int)) (by decide) rfl ?_
  intro p e s m args below meth c s₁ B hml hv
  obtain ⟨rfl, hP, hE⟩ := hv
  have hx := B.exec
  have hb := B.bytes
  have hr := B.returns
  have hts := atoms_spec (ws := ws_ yJ11_checkIndex cJ11_checkIndex 3 (some .int)) B.pre
  have hts : ∀ w ∈ lw_all, w.before _ s = true := fun w h => hts w (List.mem_cons_of_mem _ h)
  have hown : s.vm.findClass RJ11 = some m.cls := findClass_of_methodNamed B.named
  have hlocks := B.notSynchronized
  have hl := lv_entry ([.int (nI i), .int (nI n), .null]) (n := 3) (Nat.le_of_ble_eq_true rfl)
  rw [lg_entry_eq]
  generalize (lg_sl ([.int (nI i), .int (nI n), .null]) ++ List.replicate (3 - (lg_sl ([.int (nI i), .int (nI n), .null])).length) Slot.unset).toArray = ls at hl ⊢
  replace hl : lv_has ls 3 [(0, .int (nI i)), (1, .int (nI n)), (2, .null)] := hl
  refine lv_iload_n hx hb dJ11_checkIndex_0 rfl (lv_at hl 0 rfl) ?_
  refine ol_if_lt hx hb i (by omega) (tgt := 9) dJ11_checkIndex_1 (by decide) (fun c_1 => ?_) (fun c_1 => ?_)
  · exact absurd c_1 (by omega)
  · refine lv_iload_n hx hb dJ11_checkIndex_4 rfl (lv_at hl 0 rfl) ?_
    refine lv_iload_n hx hb dJ11_checkIndex_5 rfl (lv_at hl 1 rfl) ?_
    refine ol_icmp_lt hx hb i n (by omega) (by omega) (tgt := 16) dJ11_checkIndex_6 (by decide) (fun c_6 => ?_) (fun c_6 => ?_)
    · refine lv_iload_n hx hb dJ11_checkIndex_16 rfl (lv_at hl 0 rfl) ?_
      exact ol_iretR hx hb hr hlocks rfl rfl dJ11_checkIndex_17
    · exact absurd c_6 (by omega)
set_option maxHeartbeats 4000000 in
set_option maxRecDepth 100000 in
theorem jk_check (l : Launch) (G : oG) (i n : Nat) (hi : i < n) (hn : n ≤ 65536) : Met l yJ10_checkIndex (ws_ yJ10_checkIndex cJ10_checkIndex 2 (some .int)) ({ frames := 1, cells := 0, slots := 0, locals := 22 }) (oPc G [.int (nI i), .int (nI n)] (fun _ => True)) (oR (some (.int (nI i)))) 0 0 (fun _ => False) := by
  refine Met.ofW (cc := cJ10_checkIndex) (maxL := 2) (ret := (some .int)) (by decide) rfl ?_
  intro p e s m args below meth c s₁ B hml hv
  obtain ⟨rfl, hP, hE⟩ := hv
  have hx := B.exec
  have hb := B.bytes
  have hr := B.returns
  have hts := atoms_spec (ws := ws_ yJ10_checkIndex cJ10_checkIndex 2 (some .int)) B.pre
  have hts : ∀ w ∈ lw_all, w.before _ s = true := fun w h => hts w (List.mem_cons_of_mem _ h)
  have hown : s.vm.findClass RJ10 = some m.cls := findClass_of_methodNamed B.named
  have hlocks := B.notSynchronized
  have hl := lv_entry ([.int (nI i), .int (nI n)]) (n := 2) (Nat.le_of_ble_eq_true rfl)
  rw [lg_entry_eq]
  generalize (lg_sl ([.int (nI i), .int (nI n)]) ++ List.replicate (2 - (lg_sl ([.int (nI i), .int (nI n)])).length) Slot.unset).toArray = ls at hl ⊢
  replace hl : lv_has ls 2 [(0, .int (nI i)), (1, .int (nI n))] := hl
  refine lv_iload_n hx hb dJ10_checkIndex_0 rfl (lv_at hl 0 rfl) ?_
  refine lv_iload_n hx hb dJ10_checkIndex_1 rfl (lv_at hl 1 rfl) ?_
  refine lv_null hx hb dJ10_checkIndex_2 ?_
  refine ol_cR (st1 := [.int (nI i)]) (va_runS (As := [.int (nI i), .int (nI n), .null]) (rest := []) ⟨hx, hb, hml, hown, hts⟩ (jk_check3 l G i n (by omega) (by omega)) (va_cwS 3 hts (lw_S q433 q434 q75 q435) rfl rfl rfl (by decide +kernel) ⟨Nat.le_of_ble_eq_true rfl, Nat.le_of_ble_eq_true rfl⟩) (oPc.preS hE trivial) rfl rfl hl.1 rfl (lv_room (Nat.le_of_ble_eq_true rfl)) dJ10_checkIndex_3 ⟨Nat.le_of_ble_eq_true rfl, Nat.le_of_ble_eq_true rfl⟩) rfl ?_
  exact ol_iretR hx hb hr hlocks rfl rfl dJ10_checkIndex_6
set_option maxHeartbeats 4000000 in
set_option maxRecDepth 100000 in
theorem jr_size (l : Launch) (G : oG) (a b n : Nat) (md : Int32)  : Met l yJ2_size (ws_ yJ2_size cJ2_size 1 (some .int)) ({ frames := 0, cells := 0, slots := 0, locals := 0 }) (oPc G [.ref a] (fun H => va_P G.1 cl0 ([(a, .inr (9, [.int md, .ref b, .int (nI n)]))]) H)) (oR (some (.int (nI n)))) 0 0 (fun _ => False) := by
  refine Met.ofW (cc := cJ2_size) (maxL := 1) (ret := (some .int)) (by decide) rfl ?_
  intro p e s m args below meth c s₁ B hml hv
  obtain ⟨rfl, hP, hE⟩ := hv
  have hx := B.exec
  have hb := B.bytes
  have hr := B.returns
  have hts := atoms_spec (ws := ws_ yJ2_size cJ2_size 1 (some .int)) B.pre
  have hts : ∀ w ∈ lw_all, w.before _ s = true := fun w h => hts w (List.mem_cons_of_mem _ h)
  have hown : s.vm.findClass RJ2 = some m.cls := findClass_of_methodNamed B.named
  have hlocks := B.notSynchronized
  have hl := lv_entry ([.ref a]) (n := 1) (Nat.le_of_ble_eq_true rfl)
  rw [lg_entry_eq]
  generalize (lg_sl ([.ref a]) ++ List.replicate (1 - (lg_sl ([.ref a])).length) Slot.unset).toArray = ls at hl ⊢
  replace hl : lv_has ls 1 [(0, .ref a)] := hl
  refine lv_aload_n hx hb dJ2_size_0 rfl (lv_at hl 0 rfl) ?_
  refine va_get (D := G.1) (ci := 9) (v := .int (nI n)) (C := RJ2) (T := TJ2) (N := 3) hx hb hts in_J2 hown hE.1 hP 0 rfl rfl 2 (by decide) (hts _ q117) (fun _ h9 => h9) rfl dJ2_size_1 ?_
  exact ol_iretR hx hb hr hlocks rfl rfl dJ2_size_4
set_option maxHeartbeats 4000000 in
set_option maxRecDepth 100000 in
theorem jr_isEmpty (l : Launch) (G : oG) (a b n : Nat) (md : Int32) (hn : n ≤ 65536) : Met l yJ2_isEmpty (ws_ yJ2_isEmpty cJ2_isEmpty 1 (some .boolean)) ({ frames := 0, cells := 0, slots := 0, locals := 0 }) (oPc G [.ref a] (fun H => va_P G.1 cl0 ([(a, .inr (9, [.int md, .ref b, .int (nI n)]))]) H)) (oR (some (.int (zB (decide (n = 0)))))) 0 0 (fun _ => False) := by
  refine Met.ofW (cc := cJ2_isEmpty) (maxL := 1) (ret := (some .boolean)) (by decide) rfl ?_
  intro p e s m args below meth c s₁ B hml hv
  obtain ⟨rfl, hP, hE⟩ := hv
  have hx := B.exec
  have hb := B.bytes
  have hr := B.returns
  have hts := atoms_spec (ws := ws_ yJ2_isEmpty cJ2_isEmpty 1 (some .boolean)) B.pre
  have hts : ∀ w ∈ lw_all, w.before _ s = true := fun w h => hts w (List.mem_cons_of_mem _ h)
  have hown : s.vm.findClass RJ2 = some m.cls := findClass_of_methodNamed B.named
  have hlocks := B.notSynchronized
  have hl := lv_entry ([.ref a]) (n := 1) (Nat.le_of_ble_eq_true rfl)
  rw [lg_entry_eq]
  generalize (lg_sl ([.ref a]) ++ List.replicate (1 - (lg_sl ([.ref a])).length) Slot.unset).toArray = ls at hl ⊢
  replace hl : lv_has ls 1 [(0, .ref a)] := hl
  refine lv_aload_n hx hb dJ2_isEmpty_0 rfl (lv_at hl 0 rfl) ?_
  refine va_get (D := G.1) (ci := 9) (v := .int (nI n)) (C := RJ2) (T := TJ2) (N := 3) hx hb hts in_J2 hown hE.1 hP 0 rfl rfl 2 (by decide) (hts _ q117) (fun _ h9 => h9) rfl dJ2_isEmpty_1 ?_
  refine ol_if_ne hx hb n (by omega) (tgt := 11) dJ2_isEmpty_4 (by decide) (fun c_4 => ?_) (fun c_4 => ?_)
  · refine lv_iconst (v := 0) hx hb dJ2_isEmpty_11 (by decide) ?_
    exact ol_zretR hx hb hr hlocks rfl (by simp [zB, c_4]) dJ2_isEmpty_12
  · refine lv_iconst (v := 1) hx hb dJ2_isEmpty_7 (by decide) ?_
    refine lv_goto (tgt := 12) hx hb dJ2_isEmpty_8 (by decide) ?_
    exact ol_zretR hx hb hr hlocks rfl (by simp [zB, c_4]) dJ2_isEmpty_12
set_option maxHeartbeats 4000000 in
set_option maxRecDepth 100000 in
theorem jr_elementData (l : Launch) (G : oG) (a b n cap : Nat) (md : Int32) (xs : Nat → Option Nat) (i y : Nat) (hi : i < n) (hn : n ≤ cap) (hc : cap ≤ 65536) (hy : xs i = some y) : Met l yJ2_elementData (ws_ yJ2_elementData cJ2_elementData 2 (some (.object "java/lang/Object"))) ({ frames := 0, cells := 0, slots := 0, locals := 0 }) (oPc G [.ref a, .int (nI i)] (fun H => va_P G.1 cl0 ([(a, .inr (9, [.int md, .ref b, .int (nI n)])), (b, .inl (G.2 5, cap, .inr (.inr (.inr (.inr xs)))))]) H)) (oR (some (.ref y))) 0 0 (fun _ => False) := by
  refine Met.ofW (cc := cJ2_elementData) (maxL := 2) (ret := (some (.object "java/lang/Object"))) (by decide) rfl ?_
  intro p e s m args below meth c s₁ B hml hv
  obtain ⟨rfl, hP, hE⟩ := hv
  have hx := B.exec
  have hb := B.bytes
  have hr := B.returns
  have hts := atoms_spec (ws := ws_ yJ2_elementData cJ2_elementData 2 (some (.object "java/lang/Object"))) B.pre
  have hts : ∀ w ∈ lw_all, w.before _ s = true := fun w h => hts w (List.mem_cons_of_mem _ h)
  have hown : s.vm.findClass RJ2 = some m.cls := findClass_of_methodNamed B.named
  have hlocks := B.notSynchronized
  have hl := lv_entry ([.ref a, .int (nI i)]) (n := 2) (Nat.le_of_ble_eq_true rfl)
  rw [lg_entry_eq]
  generalize (lg_sl ([.ref a, .int (nI i)]) ++ List.replicate (2 - (lg_sl ([.ref a, .int (nI i)])).length) Slot.unset).toArray = ls at hl ⊢
  replace hl : lv_has ls 2 [(0, .ref a), (1, .int (nI i))] := hl
  refine lv_aload_n hx hb dJ2_elementData_0 rfl (lv_at hl 0 rfl) ?_
  refine va_get (D := G.1) (ci := 9) (v := .ref b) (C := RJ2) (T := TJ2) (N := 3) hx hb hts in_J2 hown hE.1 hP 0 rfl rfl 1 (by decide) (hts _ q116) (fun _ h9 => h9) rfl dJ2_elementData_1 ?_
  refine lv_iload_n hx hb dJ2_elementData_4 rfl (lv_at hl 1 rfl) ?_
  refine ol_aald hx hb hE.1 hP 1 5 rfl rfl i (by omega) (by omega) (show va_rf (xs i) = Value.ref y by rw [hy, va_rf]) dJ2_elementData_5 ?_
  exact ol_aretR hx hb hr (Or.inl ⟨_, rfl⟩) hlocks rfl dJ2_elementData_6
set_option maxHeartbeats 4000000 in
set_option maxRecDepth 100000 in
theorem jr_get (l : Launch) (G : oG) (a b n cap : Nat) (md : Int32) (xs : Nat → Option Nat) (i y : Nat) (hi : i < n) (hn : n ≤ cap) (hc : cap ≤ 65536) (hy : xs i = some y) : Met l yJ2_get (ws_ yJ2_get cJ2_get 2 (some (.object "java/lang/Object"))) ({ frames := 2, cells := 0, slots := 0, locals := 43 }) (oPc G [.ref a, .int (nI i)] (fun H => va_P G.1 cl0 ([(a, .inr (9, [.int md, .ref b, .int (nI n)])), (b, .inl (G.2 5, cap, .inr (.inr (.inr (.inr xs)))))]) H)) (oR (some (.ref y))) 0 0 (fun _ => False) := by
  refine Met.ofW (cc := cJ2_get) (maxL := 2) (ret := (some (.object "java/lang/Object"))) (by decide) rfl ?_
  intro p e s m args below meth c s₁ B hml hv
  obtain ⟨rfl, hP, hE⟩ := hv
  have hx := B.exec
  have hb := B.bytes
  have hr := B.returns
  have hts := atoms_spec (ws := ws_ yJ2_get cJ2_get 2 (some (.object "java/lang/Object"))) B.pre
  have hts : ∀ w ∈ lw_all, w.before _ s = true := fun w h => hts w (List.mem_cons_of_mem _ h)
  have hown : s.vm.findClass RJ2 = some m.cls := findClass_of_methodNamed B.named
  have hlocks := B.notSynchronized
  have hl := lv_entry ([.ref a, .int (nI i)]) (n := 2) (Nat.le_of_ble_eq_true rfl)
  rw [lg_entry_eq]
  generalize (lg_sl ([.ref a, .int (nI i)]) ++ List.replicate (2 - (lg_sl ([.ref a, .int (nI i)])).length) Slot.unset).toArray = ls at hl ⊢
  replace hl : lv_has ls 2 [(0, .ref a), (1, .int (nI i))] := hl
  refine lv_iload_n hx hb dJ2_get_0 rfl (lv_at hl 1 rfl) ?_
  refine lv_aload_n hx hb dJ2_get_1 rfl (lv_at hl 0 rfl) ?_
  refine va_get (D := G.1) (ci := 9) (v := .int (nI n)) (C := RJ2) (T := TJ2) (N := 3) hx hb hts in_J2 hown hE.1 hP 0 rfl rfl 2 (by decide) (hts _ q117) (fun _ h9 => h9) rfl dJ2_get_2 ?_
  refine ol_cR (st1 := [.int (nI i)]) (va_runS (As := [.int (nI i), .int (nI n)]) (rest := []) ⟨hx, hb, hml, hown, hts⟩ (jk_check l G i n (by omega) (by omega)) (va_cwS 2 hts (lw_S q430 q431 q74 q432) rfl rfl rfl (by decide +kernel) ⟨Nat.le_of_ble_eq_true rfl, Nat.le_of_ble_eq_true rfl⟩) (oPc.preS hE trivial) rfl rfl hl.1 rfl (lv_room (Nat.le_of_ble_eq_true rfl)) dJ2_get_5 ⟨Nat.le_of_ble_eq_true rfl, Nat.le_of_ble_eq_true rfl⟩) rfl ?_
  refine lv_pop hx hb dJ2_get_8 rfl ?_
  refine lv_aload_n hx hb dJ2_get_9 rfl (lv_at hl 0 rfl) ?_
  refine lv_iload_n hx hb dJ2_get_10 rfl (lv_at hl 1 rfl) ?_
  refine ol_cR (st1 := [.ref y]) (va_runV (As := [.int (nI i)]) (rest := []) ⟨hx, hb, hml, hown, hts⟩ (jr_elementData l G a b n cap md xs i y (by omega) (by omega) (by omega) hy) (cwV 1 hts (lw_V q436 q437 q438 q61 q439) rfl rfl rfl (by decide +kernel) ⟨Nat.le_of_ble_eq_true rfl, Nat.le_of_ble_eq_true rfl⟩) (oPc.preV hE (hE.recv (ci := 9) (hP 0 _ rfl) rfl) (hP.sub [0, 1] rfl)) rfl rfl hl.1 rfl (lv_room (Nat.le_of_ble_eq_true rfl)) dJ2_get_11 ⟨Nat.le_of_ble_eq_true rfl, Nat.le_of_ble_eq_true rfl⟩) rfl ?_
  exact ol_aretR hx hb hr (Or.inl ⟨_, rfl⟩) hlocks rfl dJ2_get_14
set_option maxHeartbeats 4000000 in
set_option maxRecDepth 100000 in
theorem jm_set (l : Launch) (G : oG) (a b n cap : Nat) (md : Int32) (xs : Nat → Option Nat) (i y v : Nat) (hi : i < n) (hn : n ≤ cap) (hc : cap ≤ 65536) (hy : xs i = some y) (sz : Nat) : Met l yJ2_set (ws_ yJ2_set cJ2_set 4 (some (.object "java/lang/Object"))) ({ frames := 2, cells := 0, slots := 0, locals := 43 }) (oPc G [.ref a, .int (nI i), .ref v] (oPE G ([(a, .inr (9, [.int md, .ref b, .int (nI n)])), (b, .inl (G.2 5, cap, .inr (.inr (.inr (.inr xs)))))]) sz (fun H => oEl G H v))) (oE G (fun v_ W_ => v_ = some (.ref y) ∧ W_ = [(a, .inr (9, [.int md, .ref b, .int (nI n)])), (b, .inl (G.2 5, cap, .inr (.inr (.inr (.inr (va_up xs i (some v)))))))]) ([(a, .inr (9, [.int md, .ref b, .int (nI n)])), (b, .inl (G.2 5, cap, .inr (.inr (.inr (.inr xs)))))]) sz) 0 0 (va_A ([(a, .inr (9, [.int md, .ref b, .int (nI n)])), (b, .inl (G.2 5, cap, .inr (.inr (.inr (.inr xs)))))]) sz) := by
  refine Met.ofW (cc := cJ2_set) (maxL := 4) (ret := (some (.object "java/lang/Object"))) (by decide) rfl ?_
  intro p e s m args below meth c s₁ B hml hv
  obtain ⟨rfl, ⟨hsz, hP, hD0, hX⟩, hE⟩ := hv
  have hx := B.exec
  have hb := B.bytes
  have hr := B.returns
  have hts := atoms_spec (ws := ws_ yJ2_set cJ2_set 4 (some (.object "java/lang/Object"))) B.pre
  have hts : ∀ w ∈ lw_all, w.before _ s = true := fun w h => hts w (List.mem_cons_of_mem _ h)
  have hown : s.vm.findClass RJ2 = some m.cls := findClass_of_methodNamed B.named
  have hlocks := B.notSynchronized
  subst hsz
  obtain ⟨A, hAe⟩ : ∃ A, A = va_A ([(a, .inr (9, [.int md, .ref b, .int (nI n)])), (b, .inl (G.2 5, cap, .inr (.inr (.inr (.inr xs)))))]) s.heap.size := ⟨_, rfl⟩
  have hD : va_D A ([(a, .inr (9, [.int md, .ref b, .int (nI n)])), (b, .inl (G.2 5, cap, .inr (.inr (.inr (.inr xs)))))]) := by rw [hAe]; exact hD0.self
  have hA : ∀ q : Nat, s.heap.size ≤ q → A q := fun q h => by rw [hAe]; exact Or.inr h
  have hl := lv_entry ([.ref a, .int (nI i), .ref v]) (n := 4) (Nat.le_of_ble_eq_true rfl)
  rw [lg_entry_eq]
  generalize (lg_sl ([.ref a, .int (nI i), .ref v]) ++ List.replicate (4 - (lg_sl ([.ref a, .int (nI i), .ref v])).length) Slot.unset).toArray = ls at hl ⊢
  replace hl : lv_has ls 4 [(0, .ref a), (1, .int (nI i)), (2, .ref v)] := hl
  have hP0 : va_P G.1 cl0 ([(a, .inr (9, [.int md, .ref b, .int (nI n)])), (b, .inl (G.2 5, cap, .inr (.inr (.inr (.inr xs)))))]) s.heap := hP
  refine ol_start (A := A) (fun H locs hH hS => ?_)
  have hX0 : oEl G s.heap v := hX
  have hX1 := hX0
  rw [← hH] at hP hX1
  clear hH
  refine lv_iload_n hx hb dJ2_set_0 rfl (lv_at hl 1 rfl) ?_
  refine lv_aload_n hx hb dJ2_set_1 rfl (lv_at hl 0 rfl) ?_
  refine va_get (D := G.1) (ci := 9) (v := .int (nI n)) (C := RJ2) (T := TJ2) (N := 3) hx hb hts in_J2 hown hE.1 hP 0 rfl rfl 2 (by decide) (hts _ q117) (fun _ h9 => h9) rfl dJ2_set_2 ?_
  refine ol_cR (st1 := [.int (nI i)]) (va_runS (As := [.int (nI i), .int (nI n)]) (rest := []) ⟨hx, hb, hml, hown, hts⟩ (jk_check l G i n (by omega) (by omega)) (va_cwS 2 hts (lw_S q430 q431 q74 q432) rfl rfl rfl (by decide +kernel) ⟨Nat.le_of_ble_eq_true rfl, Nat.le_of_ble_eq_true rfl⟩) (oPc.preS hE trivial) rfl rfl hl.1 rfl (lv_room (Nat.le_of_ble_eq_true rfl)) dJ2_set_5 ⟨Nat.le_of_ble_eq_true rfl, Nat.le_of_ble_eq_true rfl⟩) rfl ?_
  refine lv_pop hx hb dJ2_set_8 rfl ?_
  refine lv_aload_n hx hb dJ2_set_9 rfl (lv_at hl 0 rfl) ?_
  refine lv_iload_n hx hb dJ2_set_10 rfl (lv_at hl 1 rfl) ?_
  refine ol_cR (st1 := [.ref y]) (va_runV (As := [.int (nI i)]) (rest := []) ⟨hx, hb, hml, hown, hts⟩ (jr_elementData l G a b n cap md xs i y (by omega) (by omega) (by omega) hy) (cwV 1 hts (lw_V q436 q437 q438 q61 q439) rfl rfl rfl (by decide +kernel) ⟨Nat.le_of_ble_eq_true rfl, Nat.le_of_ble_eq_true rfl⟩) (oPc.preV hE (hE.recv (ci := 9) (hP 0 _ rfl) rfl) (hP.sub [0, 1] rfl)) rfl rfl hl.1 rfl (lv_room (Nat.le_of_ble_eq_true rfl)) dJ2_set_11 ⟨Nat.le_of_ble_eq_true rfl, Nat.le_of_ble_eq_true rfl⟩) rfl ?_
  refine lv_astore_n (lv' := [(3, .ref y), (0, .ref a), (1, .int (nI i)), (2, .ref v)]) hx hb dJ2_set_14 rfl hl (by decide) rfl (fun ls hl => ?_)
  refine lv_aload_n hx hb dJ2_set_15 rfl (lv_at hl 1 rfl) ?_
  refine va_get (D := G.1) (ci := 9) (v := .ref b) (C := RJ2) (T := TJ2) (N := 3) hx hb hts in_J2 hown hE.1 hP 0 rfl rfl 1 (by decide) (hts _ q116) (fun _ h9 => h9) rfl dJ2_set_16 ?_
  refine lv_iload_n hx hb dJ2_set_19 rfl (lv_at hl 2 rfl) ?_
  refine lv_aload_n hx hb dJ2_set_20 rfl (lv_at hl 3 rfl) ?_
  refine ol_aast hx hb hE.1 hP hD hS 1 5 rfl rfl (oEl.any hE hX1) i (by omega) (by omega) dJ2_set_21 (fun H locs hP hD hS => ?_)
  replace hP : va_P G.1 cl0 ([(a, .inr (9, [.int md, .ref b, .int (nI n)])), (b, .inl (G.2 5, cap, .inr (.inr (.inr (.inr (va_up xs i (some v)))))))]) H := hP
  replace hD : va_D A ([(a, .inr (9, [.int md, .ref b, .int (nI n)])), (b, .inl (G.2 5, cap, .inr (.inr (.inr (.inr (va_up xs i (some v)))))))]) := hD
  refine lv_aload_n hx hb dJ2_set_22 rfl (lv_at hl 0 rfl) ?_
  subst hAe
  exact ol_aretE hx hb hr (Or.inl ⟨_, rfl⟩) hlocks ⟨rfl, rfl⟩ hP hD hS dJ2_set_23
set_option maxHeartbeats 4000000 in
set_option maxRecDepth 100000 in
theorem jm_fastRemove (l : Launch) (G : oG) (a b n cap : Nat) (md : Int32) (xs : Nat → Option Nat) (i : Nat) (hi : i < n) (hn : n ≤ cap) (hc : cap ≤ 65536) (sz : Nat) : Met l yJ2_fastRemove (ws_ yJ2_fastRemove cJ2_fastRemove 4 none) ({ frames := 1, cells := 0, slots := 0, locals := 30 }) (oPc G [.ref a, .ref b, .int (nI i)] (oPE G ([(a, .inr (9, [.int md, .ref b, .int (nI n)])), (b, .inl (G.2 5, cap, .inr (.inr (.inr (.inr xs)))))]) sz (fun H => ∀ j : Nat, j < n → ∀ z : Nat, xs j = some z → oEl G H z))) (oE G (fun v_ W_ => v_ = none ∧ ∃ ys : Nat → Option Nat, (∀ j, j < i → ys j = xs j) ∧ (∀ j, i ≤ j → j < n - 1 → ys j = xs (j + 1)) ∧ W_ = [(a, .inr (9, [.int (md + 1), .ref b, .int (nI (n - 1))])), (b, .inl (G.2 5, cap, .inr (.inr (.inr (.inr ys)))))]) ([(a, .inr (9, [.int md, .ref b, .int (nI n)])), (b, .inl (G.2 5, cap, .inr (.inr (.inr (.inr xs)))))]) sz) 0 0 (va_A ([(a, .inr (9, [.int md, .ref b, .int (nI n)])), (b, .inl (G.2 5, cap, .inr (.inr (.inr (.inr xs)))))]) sz) := by
  refine Met.ofW (cc := cJ2_fastRemove) (maxL := 4) (ret := none) (by decide) rfl ?_
  intro p e s m args below meth c s₁ B hml hv
  obtain ⟨rfl, ⟨hsz, hP, hD0, hX⟩, hE⟩ := hv
  have hx := B.exec
  have hb := B.bytes
  have hr := B.returns
  have hts := atoms_spec (ws := ws_ yJ2_fastRemove cJ2_fastRemove 4 none) B.pre
  have hts : ∀ w ∈ lw_all, w.before _ s = true := fun w h => hts w (List.mem_cons_of_mem _ h)
  have hown : s.vm.findClass RJ2 = some m.cls := findClass_of_methodNamed B.named
  have hlocks := B.notSynchronized
  subst hsz
  obtain ⟨A, hAe⟩ : ∃ A, A = va_A ([(a, .inr (9, [.int md, .ref b, .int (nI n)])), (b, .inl (G.2 5, cap, .inr (.inr (.inr (.inr xs)))))]) s.heap.size := ⟨_, rfl⟩
  have hD : va_D A ([(a, .inr (9, [.int md, .ref b, .int (nI n)])), (b, .inl (G.2 5, cap, .inr (.inr (.inr (.inr xs)))))]) := by rw [hAe]; exact hD0.self
  have hA : ∀ q : Nat, s.heap.size ≤ q → A q := fun q h => by rw [hAe]; exact Or.inr h
  have hl := lv_entry ([.ref a, .ref b, .int (nI i)]) (n := 4) (Nat.le_of_ble_eq_true rfl)
  rw [lg_entry_eq]
  generalize (lg_sl ([.ref a, .ref b, .int (nI i)]) ++ List.replicate (4 - (lg_sl ([.ref a, .ref b, .int (nI i)])).length) Slot.unset).toArray = ls at hl ⊢
  replace hl : lv_has ls 4 [(0, .ref a), (1, .ref b), (2, .int (nI i))] := hl
  have hP0 : va_P G.1 cl0 ([(a, .inr (9, [.int md, .ref b, .int (nI n)])), (b, .inl (G.2 5, cap, .inr (.inr (.inr (.inr xs)))))]) s.heap := hP
  refine ol_start (A := A) (fun H locs hH hS => ?_)
  have hX0 : ∀ j : Nat, j < n → ∀ z : Nat, xs j = some z → oEl G s.heap z := hX
  have hX1 := hX0
  rw [← hH] at hP hX1
  clear hH
  refine lv_aload_n hx hb dJ2_fastRemove_0 rfl (lv_at hl 0 rfl) ?_
  refine lv_dup hx hb dJ2_fastRemove_1 rfl ?_
  refine va_get (D := G.1) (ci := 9) (v := .int md) (C := RJ2) (T := TJ2) (N := 3) hx hb hts in_J2 hown hE.1 hP 0 rfl rfl 0 (by decide) (hts _ q119) (u_same (hts _ q120)) rfl dJ2_fastRemove_2 ?_
  refine lv_iconst (v := 1) hx hb dJ2_fastRemove_5 (by decide) ?_
  refine lv_iadd hx hb dJ2_fastRemove_6 ?_
  refine va_put (D := G.1) (ci := 9) (v := .int (md + 1)) (ty := .int) (C := RJ2) (T := TJ2) (N := 3) hx hb hts in_J2 tyJ2 tyJ2_ok nmJ2 hown hE.1 hP hD hS 0 rfl rfl 0 (by decide) (hts _ q119) (u_same (hts _ q120)) rfl (by decide +kernel) rfl rfl (Nat.le_of_ble_eq_true rfl) dJ2_fastRemove_7 (fun H locs hP hD hS => ?_)
  replace hP : va_P G.1 cl0 ([(a, .inr (9, [.int (md + 1), .ref b, .int (nI n)])), (b, .inl (G.2 5, cap, .inr (.inr (.inr (.inr xs)))))]) H := hP
  replace hD : va_D A ([(a, .inr (9, [.int (md + 1), .ref b, .int (nI n)])), (b, .inl (G.2 5, cap, .inr (.inr (.inr (.inr xs)))))]) := hD
  refine lv_aload_n hx hb dJ2_fastRemove_10 rfl (lv_at hl 0 rfl) ?_
  refine va_get (D := G.1) (ci := 9) (v := .int (nI n)) (C := RJ2) (T := TJ2) (N := 3) hx hb hts in_J2 hown hE.1 hP 0 rfl rfl 2 (by decide) (hts _ q117) (fun _ h9 => h9) rfl dJ2_fastRemove_11 ?_
  refine lv_iconst (v := 1) hx hb dJ2_fastRemove_14 (by decide) ?_
  refine ol_isub hx hb n 1 (by omega) dJ2_fastRemove_15 ?_
  refine lv_dup hx hb dJ2_fastRemove_16 rfl ?_
  refine lv_istore_n (lv' := [(3, .int (nI (n - 1))), (0, .ref a), (1, .ref b), (2, .int (nI i))]) hx hb dJ2_fastRemove_17 rfl hl (by decide) rfl (fun ls hl => ?_)
  refine lv_iload_n hx hb dJ2_fastRemove_18 rfl (lv_at hl 3 rfl) ?_
  refine ol_icmp_le hx hb (n - 1) i (by omega) (by omega) (tgt := 34) dJ2_fastRemove_19 (by decide) (fun c_19 => ?_) (fun c_19 => ?_)
  · have en : i = n - 1 := by omega
    refine lv_aload_n hx hb dJ2_fastRemove_34 rfl (lv_at hl 2 rfl) ?_
    refine lv_aload_n hx hb dJ2_fastRemove_35 rfl (lv_at hl 1 rfl) ?_
    refine lv_iload_n hx hb dJ2_fastRemove_36 rfl (lv_at hl 0 rfl) ?_
    refine lv_dup_x1 hx hb dJ2_fastRemove_37 rfl rfl ?_
    refine va_put (D := G.1) (ci := 9) (v := .int (nI (n - 1))) (ty := .int) (C := RJ2) (T := TJ2) (N := 3) hx hb hts in_J2 tyJ2 tyJ2_ok nmJ2 hown hE.1 hP hD hS 0 rfl rfl 2 (by decide) (hts _ q117) (fun _ h9 => h9) rfl (by decide +kernel) rfl rfl (Nat.le_of_ble_eq_true rfl) dJ2_fastRemove_38 (fun H locs hP hD hS => ?_)
    replace hP : va_P G.1 cl0 ([(a, .inr (9, [.int (md + 1), .ref b, .int (nI (n - 1))])), (b, .inl (G.2 5, cap, .inr (.inr (.inr (.inr xs)))))]) H := hP
    replace hD : va_D A ([(a, .inr (9, [.int (md + 1), .ref b, .int (nI (n - 1))])), (b, .inl (G.2 5, cap, .inr (.inr (.inr (.inr xs)))))]) := hD
    refine lv_null hx hb dJ2_fastRemove_41 ?_
    refine ol_aastN hx hb hE.1 hP hD hS 1 5 rfl rfl (n - 1) (by omega) (by omega) dJ2_fastRemove_42 (fun H locs hP hD hS => ?_)
    replace hP : va_P G.1 cl0 ([(a, .inr (9, [.int (md + 1), .ref b, .int (nI (n - 1))])), (b, .inl (G.2 5, cap, .inr (.inr (.inr (.inr (va_up xs (n - 1) none))))))]) H := hP
    replace hD : va_D A ([(a, .inr (9, [.int (md + 1), .ref b, .int (nI (n - 1))])), (b, .inl (G.2 5, cap, .inr (.inr (.inr (.inr (va_up xs (n - 1) none))))))]) := hD
    subst hAe
    exact ol_vretE hx hb hr hlocks ⟨rfl, _, (fun j hj => by simp [va_up, show ¬ j = n - 1 by omega]), (fun j h1 h2 => by omega), rfl⟩ hP hD hS dJ2_fastRemove_43
  · refine lv_aload_n hx hb dJ2_fastRemove_22 rfl (lv_at hl 2 rfl) ?_
    refine lv_iload_n hx hb dJ2_fastRemove_23 rfl (lv_at hl 3 rfl) ?_
    refine lv_iconst (v := 1) hx hb dJ2_fastRemove_24 (by decide) ?_
    refine ol_iadd hx hb i 1 dJ2_fastRemove_25 ?_
    refine lv_aload_n hx hb dJ2_fastRemove_26 rfl (lv_at hl 2 rfl) ?_
    refine lv_iload_n hx hb dJ2_fastRemove_27 rfl (lv_at hl 3 rfl) ?_
    refine lv_iload_n hx hb dJ2_fastRemove_28 rfl (lv_at hl 0 rfl) ?_
    refine lv_iload_n hx hb dJ2_fastRemove_29 rfl (lv_at hl 3 rfl) ?_
    refine ol_isub hx hb (n - 1) i (by omega) dJ2_fastRemove_30 ?_
    have hel : ∀ z, oEl G s.heap z → oEl G H z := fun z hz => hz.keep hE hP0 hP (by rw [← hAe]; exact hS) (by intro x hx; simp only [List.mem_cons, List.not_mem_nil, or_false] at hx; rcases hx with rfl | rfl; exact Or.inr ⟨_, List.mem_cons_self⟩; exact Or.inl ⟨_, rfl⟩)
    refine ol_copyo hx hb (by rw [hml]; exact hl.1.symm) hown (hts _ q491) (hts _ q236) (hts _ q235) (hts _ q67) hE hP hD hS 1 1 rfl rfl (i + 1) i ((n - 1) - i) (by omega) (by omega) (by omega) (fun j hj z hz => hel z (hX0 _ (by omega) z hz)) (Nat.le_of_ble_eq_true rfl) (Nat.le_of_ble_eq_true rfl) dJ2_fastRemove_31 (fun H locs hP hD hS => ?_)
    replace hP : va_P G.1 cl0 ([(a, .inr (9, [.int (md + 1), .ref b, .int (nI n)])), (b, .inl (G.2 5, cap, .inr (.inr (.inr (.inr (va_cpy xs xs (i + 1) i ((n - 1) - i)))))))]) H := hP
    replace hD : va_D A ([(a, .inr (9, [.int (md + 1), .ref b, .int (nI n)])), (b, .inl (G.2 5, cap, .inr (.inr (.inr (.inr (va_cpy xs xs (i + 1) i ((n - 1) - i)))))))]) := hD
    refine lv_aload_n hx hb dJ2_fastRemove_34 rfl (lv_at hl 2 rfl) ?_
    refine lv_aload_n hx hb dJ2_fastRemove_35 rfl (lv_at hl 1 rfl) ?_
    refine lv_iload_n hx hb dJ2_fastRemove_36 rfl (lv_at hl 0 rfl) ?_
    refine lv_dup_x1 hx hb dJ2_fastRemove_37 rfl rfl ?_
    refine va_put (D := G.1) (ci := 9) (v := .int (nI (n - 1))) (ty := .int) (C := RJ2) (T := TJ2) (N := 3) hx hb hts in_J2 tyJ2 tyJ2_ok nmJ2 hown hE.1 hP hD hS 0 rfl rfl 2 (by decide) (hts _ q117) (fun _ h9 => h9) rfl (by decide +kernel) rfl rfl (Nat.le_of_ble_eq_true rfl) dJ2_fastRemove_38 (fun H locs hP hD hS => ?_)
    replace hP : va_P G.1 cl0 ([(a, .inr (9, [.int (md + 1), .ref b, .int (nI (n - 1))])), (b, .inl (G.2 5, cap, .inr (.inr (.inr (.inr (va_cpy xs xs (i + 1) i ((n - 1) - i)))))))]) H := hP
    replace hD : va_D A ([(a, .inr (9, [.int (md + 1), .ref b, .int (nI (n - 1))])), (b, .inl (G.2 5, cap, .inr (.inr (.inr (.inr (va_cpy xs xs (i + 1) i ((n - 1) - i)))))))]) := hD
    refine lv_null hx hb dJ2_fastRemove_41 ?_
    refine ol_aastN hx hb hE.1 hP hD hS 1 5 rfl rfl (n - 1) (by omega) (by omega) dJ2_fastRemove_42 (fun H locs hP hD hS => ?_)
    replace hP : va_P G.1 cl0 ([(a, .inr (9, [.int (md + 1), .ref b, .int (nI (n - 1))])), (b, .inl (G.2 5, cap, .inr (.inr (.inr (.inr (va_up (va_cpy xs xs (i + 1) i ((n - 1) - i)) (n - 1) none))))))]) H := hP
    replace hD : va_D A ([(a, .inr (9, [.int (md + 1), .ref b, .int (nI (n - 1))])), (b, .inl (G.2 5, cap, .inr (.inr (.inr (.inr (va_up (va_cpy xs xs (i + 1) i ((n - 1) - i)) (n - 1) none))))))]) := hD
    subst hAe
    exact ol_vretE hx hb hr hlocks ⟨rfl, _, (fun j hj => by simp [va_up, va_cpy, show ¬ j = n - 1 by omega, show ¬ i ≤ j by omega]), (fun j h1 h2 => by simp [va_up, va_cpy, show ¬ j = n - 1 by omega, h1, show j < i + (n - 1 - i) by omega, show i + 1 + (j - i) = j + 1 by omega]), rfl⟩ hP hD hS dJ2_fastRemove_43
set_option maxHeartbeats 4000000 in
set_option maxRecDepth 100000 in
theorem jm_clear (l : Launch) (G : oG) (a b n cap : Nat) (md : Int32) (xs : Nat → Option Nat) (hn : n ≤ cap) (hc : cap ≤ 65536) (sz : Nat) : Met l yJ2_clear (ws_ yJ2_clear cJ2_clear 4 none) ({ frames := 0, cells := 0, slots := 0, locals := 0 }) (oPc G [.ref a] (oPE G ([(a, .inr (9, [.int md, .ref b, .int (nI n)])), (b, .inl (G.2 5, cap, .inr (.inr (.inr (.inr xs)))))]) sz (fun _ => True))) (oE G (fun v_ W_ => v_ = none ∧ ∃ ys : Nat → Option Nat, W_ = [(a, .inr (9, [.int (md + 1), .ref b, .int (nI 0)])), (b, .inl (G.2 5, cap, .inr (.inr (.inr (.inr ys)))))]) ([(a, .inr (9, [.int md, .ref b, .int (nI n)])), (b, .inl (G.2 5, cap, .inr (.inr (.inr (.inr xs)))))]) sz) 0 0 (va_A ([(a, .inr (9, [.int md, .ref b, .int (nI n)])), (b, .inl (G.2 5, cap, .inr (.inr (.inr (.inr xs)))))]) sz) := by
  refine Met.ofW (cc := cJ2_clear) (maxL := 4) (ret := none) (by decide) rfl ?_
  intro p e s m args below meth c s₁ B hml hv
  obtain ⟨rfl, ⟨hsz, hP, hD0, hX⟩, hE⟩ := hv
  have hx := B.exec
  have hb := B.bytes
  have hr := B.returns
  have hts := atoms_spec (ws := ws_ yJ2_clear cJ2_clear 4 none) B.pre
  have hts : ∀ w ∈ lw_all, w.before _ s = true := fun w h => hts w (List.mem_cons_of_mem _ h)
  have hown : s.vm.findClass RJ2 = some m.cls := findClass_of_methodNamed B.named
  have hlocks := B.notSynchronized
  subst hsz
  obtain ⟨A, hAe⟩ : ∃ A, A = va_A ([(a, .inr (9, [.int md, .ref b, .int (nI n)])), (b, .inl (G.2 5, cap, .inr (.inr (.inr (.inr xs)))))]) s.heap.size := ⟨_, rfl⟩
  have hD : va_D A ([(a, .inr (9, [.int md, .ref b, .int (nI n)])), (b, .inl (G.2 5, cap, .inr (.inr (.inr (.inr xs)))))]) := by rw [hAe]; exact hD0.self
  have hA : ∀ q : Nat, s.heap.size ≤ q → A q := fun q h => by rw [hAe]; exact Or.inr h
  have hl := lv_entry ([.ref a]) (n := 4) (Nat.le_of_ble_eq_true rfl)
  rw [lg_entry_eq]
  generalize (lg_sl ([.ref a]) ++ List.replicate (4 - (lg_sl ([.ref a])).length) Slot.unset).toArray = ls at hl ⊢
  replace hl : lv_has ls 4 [(0, .ref a)] := hl
  have hP0 : va_P G.1 cl0 ([(a, .inr (9, [.int md, .ref b, .int (nI n)])), (b, .inl (G.2 5, cap, .inr (.inr (.inr (.inr xs)))))]) s.heap := hP
  refine ol_start (A := A) (fun H locs hH hS => ?_)
  rw [← hH] at hP
  clear hH
  refine lv_aload_n hx hb dJ2_clear_0 rfl (lv_at hl 0 rfl) ?_
  refine lv_dup hx hb dJ2_clear_1 rfl ?_
  refine va_get (D := G.1) (ci := 9) (v := .int md) (C := RJ2) (T := TJ2) (N := 3) hx hb hts in_J2 hown hE.1 hP 0 rfl rfl 0 (by decide) (hts _ q119) (u_same (hts _ q120)) rfl dJ2_clear_2 ?_
  refine lv_iconst (v := 1) hx hb dJ2_clear_5 (by decide) ?_
  refine lv_iadd hx hb dJ2_clear_6 ?_
  refine va_put (D := G.1) (ci := 9) (v := .int (md + 1)) (ty := .int) (C := RJ2) (T := TJ2) (N := 3) hx hb hts in_J2 tyJ2 tyJ2_ok nmJ2 hown hE.1 hP hD hS 0 rfl rfl 0 (by decide) (hts _ q119) (u_same (hts _ q120)) rfl (by decide +kernel) rfl rfl (Nat.le_of_ble_eq_true rfl) dJ2_clear_7 (fun H locs hP hD hS => ?_)
  replace hP : va_P G.1 cl0 ([(a, .inr (9, [.int (md + 1), .ref b, .int (nI n)])), (b, .inl (G.2 5, cap, .inr (.inr (.inr (.inr xs)))))]) H := hP
  replace hD : va_D A ([(a, .inr (9, [.int (md + 1), .ref b, .int (nI n)])), (b, .inl (G.2 5, cap, .inr (.inr (.inr (.inr xs)))))]) := hD
  refine lv_aload_n hx hb dJ2_clear_10 rfl (lv_at hl 0 rfl) ?_
  refine va_get (D := G.1) (ci := 9) (v := .ref b) (C := RJ2) (T := TJ2) (N := 3) hx hb hts in_J2 hown hE.1 hP 0 rfl rfl 1 (by decide) (hts _ q116) (fun _ h9 => h9) rfl dJ2_clear_11 ?_
  refine lv_astore_n (lv' := [(1, .ref b), (0, .ref a)]) hx hb dJ2_clear_14 rfl hl (by decide) rfl (fun ls hl => ?_)
  refine lv_aload_n hx hb dJ2_clear_15 rfl (lv_at hl 1 rfl) ?_
  refine va_get (D := G.1) (ci := 9) (v := .int (nI n)) (C := RJ2) (T := TJ2) (N := 3) hx hb hts in_J2 hown hE.1 hP 0 rfl rfl 2 (by decide) (hts _ q117) (fun _ h9 => h9) rfl dJ2_clear_16 ?_
  refine lv_istore_n (lv' := [(2, .int (nI n)), (1, .ref b), (0, .ref a)]) hx hb dJ2_clear_19 rfl hl (by decide) rfl (fun ls hl => ?_)
  refine lv_aload_n hx hb dJ2_clear_20 rfl (lv_at hl 2 rfl) ?_
  refine lv_iconst (v := 0) hx hb dJ2_clear_21 (by decide) ?_
  refine lv_dup_x1 hx hb dJ2_clear_22 rfl rfl ?_
  refine va_put (D := G.1) (ci := 9) (v := .int 0) (ty := .int) (C := RJ2) (T := TJ2) (N := 3) hx hb hts in_J2 tyJ2 tyJ2_ok nmJ2 hown hE.1 hP hD hS 0 rfl rfl 2 (by decide) (hts _ q117) (fun _ h9 => h9) rfl (by decide +kernel) rfl rfl (Nat.le_of_ble_eq_true rfl) dJ2_clear_23 (fun H locs hP hD hS => ?_)
  replace hP : va_P G.1 cl0 ([(a, .inr (9, [.int (md + 1), .ref b, .int 0])), (b, .inl (G.2 5, cap, .inr (.inr (.inr (.inr xs)))))]) H := hP
  replace hD : va_D A ([(a, .inr (9, [.int (md + 1), .ref b, .int 0])), (b, .inl (G.2 5, cap, .inr (.inr (.inr (.inr xs)))))]) := hD
  refine lv_istore_n (lv' := [(3, .int 0), (2, .int (nI n)), (1, .ref b), (0, .ref a)]) hx hb dJ2_clear_26 rfl hl (by decide) rfl (fun ls hl => ?_)
  refine ol_for (P := fun i1 H locs ls => lv_has ls 4 [(3, .int (nI i1)), (0, .ref a), (1, .ref b), (2, .int (nI n))] ∧ (∃ ys : Nat → Option Nat, va_P G.1 cl0 ([(a, .inr (9, [.int (md + 1), .ref b, .int (nI 0)])), (b, .inl (G.2 5, cap, .inr (.inr (.inr (.inr ys)))))]) H ∧ va_D A ([(a, .inr (9, [.int (md + 1), .ref b, .int (nI 0)])), (b, .inl (G.2 5, cap, .inr (.inr (.inr (.inr ys)))))])) ∧ va_S A s.heap H locs) n 0 (by omega) ⟨lv_sub hl [0, 3, 2, 1] rfl, ⟨_, hP, hD⟩, hS⟩ (fun i1 H locs ls hi1 hI ih1 => ?_)
  obtain ⟨hl, ⟨ys, hP, hD⟩, hS⟩ := hI
  refine lv_iload_n hx hb dJ2_clear_27 rfl (lv_at hl 0 rfl) ?_
  refine lv_iload_n hx hb dJ2_clear_28 rfl (lv_at hl 3 rfl) ?_
  refine ol_icmp_ge hx hb i1 n (by omega) (by omega) (tgt := 42) dJ2_clear_29 (by decide) (fun c_29 => ?_) (fun c_29 => ?_)
  · subst hAe
    exact ol_vretE hx hb hr hlocks ⟨rfl, _, rfl⟩ hP hD hS dJ2_clear_42
  · refine lv_aload_n hx hb dJ2_clear_32 rfl (lv_at hl 2 rfl) ?_
    refine lv_iload_n hx hb dJ2_clear_33 rfl (lv_at hl 0 rfl) ?_
    refine lv_null hx hb dJ2_clear_34 ?_
    refine ol_aastN hx hb hE.1 hP hD hS 1 5 rfl rfl i1 (by omega) (by omega) dJ2_clear_35 (fun H locs hP hD hS => ?_)
    replace hP : va_P G.1 cl0 ([(a, .inr (9, [.int (md + 1), .ref b, .int 0])), (b, .inl (G.2 5, cap, .inr (.inr (.inr (.inr (va_up ys i1 none))))))]) H := hP
    replace hD : va_D A ([(a, .inr (9, [.int (md + 1), .ref b, .int 0])), (b, .inl (G.2 5, cap, .inr (.inr (.inr (.inr (va_up ys i1 none))))))]) := hD
    refine ol_iinc (k := 0) (lv' := [(3, .int (nI (i1 + 1))), (0, .ref a), (1, .ref b), (2, .int (nI n))]) hx hb 1 i1 dJ2_clear_36 hl rfl (by decide) rfl (fun ls hl => ?_)
    refine lv_goto (tgt := 27) hx hb dJ2_clear_39 (by decide) ?_
    exact ih1 H locs ls (by omega) ⟨lv_sub hl [0, 1, 2, 3] rfl, ⟨_, hP, hD⟩, hS⟩
set_option maxHeartbeats 4000000 in
set_option maxRecDepth 100000 in
theorem jk_newLength (l : Launch) (G : oG) (o g t : Nat) (hg : g ≤ t) (ho : 0 < o) (hs : o + t ≤ 65536) : Met l yJ3_newLength (ws_ yJ3_newLength cJ3_newLength 4 (some .int)) ({ frames := 1, cells := 0, slots := 0, locals := 14 }) (oPc G [.int (nI o), .int (nI g), .int (nI t)] (fun _ => True)) (oR (some (.int (nI (o + t))))) 0 0 (fun _ => False) := by
  refine Met.ofW (cc := cJ3_newLength) (maxL := 4) (ret := (some .int)) (by decide) rfl ?_
  intro p e s m args below meth c s₁ B hml hv
  obtain ⟨rfl, hP, hE⟩ := hv
  have hx := B.exec
  have hb := B.bytes
  have hr := B.returns
  have hts := atoms_spec (ws := ws_ yJ3_newLength cJ3_newLength 4 (some .int)) B.pre
  have hts : ∀ w ∈ lw_all, w.before _ s = true := fun w h => hts w (List.mem_cons_of_mem _ h)
  have hown : s.vm.findClass RJ3 = some m.cls := findClass_of_methodNamed B.named
  have hlocks := B.notSynchronized
  have hl := lv_entry ([.int (nI o), .int (nI g), .int (nI t)]) (n := 4) (Nat.le_of_ble_eq_true rfl)
  rw [lg_entry_eq]
  generalize (lg_sl ([.int (nI o), .int (nI g), .int (nI t)]) ++ List.replicate (4 - (lg_sl ([.int (nI o), .int (nI g), .int (nI t)])).length) Slot.unset).toArray = ls at hl ⊢
  replace hl : lv_has ls 4 [(0, .int (nI o)), (1, .int (nI g)), (2, .int (nI t))] := hl
  refine lv_iload_n hx hb dJ3_newLength_0 rfl (lv_at hl 0 rfl) ?_
  refine lv_iload_n hx hb dJ3_newLength_1 rfl (lv_at hl 1 rfl) ?_
  refine lv_iload_n hx hb dJ3_newLength_2 rfl (lv_at hl 2 rfl) ?_
  refine va_mmax hx hb (by rw [hml]; exact hl.1.symm) hown (hts _ q198) (hts _ q199) (hts _ q65) (hts _ q200) (Nat.le_of_ble_eq_true rfl) (Nat.le_of_ble_eq_true rfl) (Nat.le_of_ble_eq_true rfl) (Nat.le_of_ble_eq_true rfl) dJ3_newLength_3 ?_
  refine ol_top (y := nI t) (nI_max hg (by omega)) ?_
  refine ol_iadd hx hb o t dJ3_newLength_6 ?_
  refine lv_istore_n (lv' := [(3, .int (nI (o + t))), (0, .int (nI o)), (1, .int (nI g)), (2, .int (nI t))]) hx hb dJ3_newLength_7 rfl hl (by decide) rfl (fun ls hl => ?_)
  refine lv_iconst (v := 0) hx hb dJ3_newLength_8 (by decide) ?_
  refine lv_iload_n hx hb dJ3_newLength_9 rfl (lv_at hl 0 rfl) ?_
  refine ol_icmp_ge hx hb 0 (o + t) (by omega) (by omega) (tgt := 21) dJ3_newLength_10 (by decide) (fun c_10 => ?_) (fun c_10 => ?_)
  · exact absurd c_10 (by omega)
  · refine lv_iload_n hx hb dJ3_newLength_13 rfl (lv_at hl 0 rfl) ?_
    refine lv_ldc hx hb hown (hts _ q201) dJ3_newLength_14 ?_
    refine ol_icmp_gt hx hb (o + t) 2147483639 (by omega) (by omega) (tgt := 21) dJ3_newLength_16 (by decide) (fun c_16 => ?_) (fun c_16 => ?_)
    · exact absurd c_16 (by omega)
    · refine lv_iload_n hx hb dJ3_newLength_19 rfl (lv_at hl 0 rfl) ?_
      exact ol_iretR hx hb hr hlocks rfl rfl dJ3_newLength_20
