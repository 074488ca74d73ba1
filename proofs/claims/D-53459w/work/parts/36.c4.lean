/-! THE COMPONENT: the latest things, what is read of them; copies of them -/
/-- capacity, cells and slots of a list that has grown from nothing to i elements -/
def alK : Nat → Nat × Nat × Nat
  | 0 => (0, 0, 0)
  | i + 1 => (alN (alK i).1 i, (alK i).2.1 + alC (alK i).1 i, (alK i).2.2 + alS (alK i).1 i)
theorem alN_le {cap n : Nat} (h : n ≤ cap) (h2 : cap = 0 ∨ 2 ≤ cap) : n + 1 ≤ alN cap n ∧ 2 ≤ alN cap n := by
  unfold alN; split
  · omega
  · split <;> omega
theorem alK_le (i : Nat) : i ≤ (alK i).1 ∧ ((alK i).1 = 0 ∨ 2 ≤ (alK i).1) ∧ (0 < i → 2 ≤ (alK i).1) := by
  induction i with
  | zero => exact ⟨Nat.le_refl _, Or.inl rfl, fun h => absurd h (by omega)⟩
  | succ i ih =>
    have := alN_le ih.1 ih.2.1
    exact ⟨this.1, Or.inr this.2, fun _ => this.2⟩
set_option maxHeartbeats 4000000 in
set_option maxRecDepth 100000 in
theorem cr_back (l : Launch) (G : oG) (Z : oZ) (a b ar cap n mo : Nat) (md : Int32) (xs : Nat → Option Nat) (sa : Nat → Nat) (i : Nat) (hn : n ≤ cap) (hc : cap ≤ 40000) (hxs : ∀ j, j < n → xs j = some (sa j)) (hi : i < n) : Met l yX2_back (ws_ yX2_back cX2_back 2 (some (.object "java/lang/Object"))) ({ frames := 3, cells := 0, slots := 0, locals := 64 }) (oPc1 G Z [.ref a, .int (nI i)] (fun H => va_P G.1 cl0 ((a, .inr (2, [.int (nI mo), .ref b])) :: (b, .inr (9, [.int md, .ref ar, .int (nI n)])) :: (alT G ar cap xs)) H)) (oR (some (.ref (sa (n - 1 - i))))) 0 0 (fun _ => False) := by
  refine Met.ofW (cc := cX2_back) (maxL := 2) (ret := (some (.object "java/lang/Object"))) (by decide) rfl ?_
  intro p e s m args below meth c s₁ B hml hv
  obtain ⟨rfl, hP, hE⟩ := hv
  have hx := B.exec
  have hb := B.bytes
  have hr := B.returns
  have hts := atoms_spec (ws := ws_ yX2_back cX2_back 2 (some (.object "java/lang/Object"))) B.pre
  have hts : ∀ w ∈ lw_all, w.before _ s = true := fun w h => hts w (List.mem_cons_of_mem _ h)
  have hown : s.vm.findClass RX2 = some m.cls := findClass_of_methodNamed B.named
  have hlocks := B.notSynchronized
  have hl := lv_entry ([.ref a, .int (nI i)]) (n := 2) (Nat.le_of_ble_eq_true rfl)
  rw [lg_entry_eq]
  generalize (lg_sl ([.ref a, .int (nI i)]) ++ List.replicate (2 - (lg_sl ([.ref a, .int (nI i)])).length) Slot.unset).toArray = ls at hl ⊢
  replace hl : lv_has ls 2 [(0, .ref a), (1, .int (nI i))] := hl
  refine lv_iload_n hx hb dX2_back_0 rfl (lv_at hl 1 rfl) ?_
  refine lv_aload_n hx hb dX2_back_1 rfl (lv_at hl 0 rfl) ?_
  refine va_get (D := G.1) (ci := 2) (v := .ref b) (C := RX2) (T := TX2) (N := 2) hx hb hts in_X2 hown hE.1.1 hP 0 rfl rfl 1 (by decide) (hts _ q137) (fun _ h9 => h9) rfl dX2_back_2 ?_
  refine ol_cF5 (st1 := [.int (nI n), .int (nI i)]) (va_runF (As := []) (rest := [.int (nI i)]) (hE.1.1.1 9 _ rfl).2 ⟨hx, hb, hml, hown, hts⟩ (jr_size l G b ar n md) (va_cwF 0 hts (lw_F q471 q416 q418 q61 q420) rfl rfl rfl (hE.2.1 _ (List.mem_of_getElem? (i := 2) rfl)) (by decide +kernel) ⟨Nat.le_of_ble_eq_true rfl, Nat.le_of_ble_eq_true rfl⟩) (oPc.preV hE.1 (hE.1.recv (ci := 9) (hP 1 _ rfl) rfl) (hP.sub [1] rfl)) rfl rfl hl.1 rfl (lv_room (Nat.le_of_ble_eq_true rfl)) dX2_back_5 ⟨Nat.le_of_ble_eq_true rfl, Nat.le_of_ble_eq_true rfl⟩) rfl ?_
  refine ol_icmp_ge hx hb i n (by omega) (by omega) (tgt := 38) dX2_back_10 (by decide) (fun c_10 => ?_) (fun c_10 => ?_)
  · exact absurd c_10 (by omega)
  · rw [alT_1 xs (show 0 < cap by omega)] at hP
    refine lv_aload_n hx hb dX2_back_13 rfl (lv_at hl 0 rfl) ?_
    refine va_get (D := G.1) (ci := 2) (v := .ref b) (C := RX2) (T := TX2) (N := 2) hx hb hts in_X2 hown hE.1.1 hP 0 rfl rfl 1 (by decide) (hts _ q137) (fun _ h9 => h9) rfl dX2_back_14 ?_
    refine lv_aload_n hx hb dX2_back_17 rfl (lv_at hl 0 rfl) ?_
    refine va_get (D := G.1) (ci := 2) (v := .ref b) (C := RX2) (T := TX2) (N := 2) hx hb hts in_X2 hown hE.1.1 hP 0 rfl rfl 1 (by decide) (hts _ q137) (fun _ h9 => h9) rfl dX2_back_18 ?_
    refine ol_cF5 (st1 := [.int (nI n), .ref b]) (va_runF (As := []) (rest := [.ref b]) (hE.1.1.1 9 _ rfl).2 ⟨hx, hb, hml, hown, hts⟩ (jr_size l G b ar n md) (va_cwF 0 hts (lw_F q471 q416 q418 q61 q420) rfl rfl rfl (hE.2.1 _ (List.mem_of_getElem? (i := 2) rfl)) (by decide +kernel) ⟨Nat.le_of_ble_eq_true rfl, Nat.le_of_ble_eq_true rfl⟩) (oPc.preV hE.1 (hE.1.recv (ci := 9) (hP 1 _ rfl) rfl) (hP.sub [1] rfl)) rfl rfl hl.1 rfl (lv_room (Nat.le_of_ble_eq_true rfl)) dX2_back_21 ⟨Nat.le_of_ble_eq_true rfl, Nat.le_of_ble_eq_true rfl⟩) rfl ?_
    refine lv_iconst (v := 1) hx hb dX2_back_26 (by decide) ?_
    refine ol_isub hx hb n 1 (by omega) dX2_back_27 ?_
    refine lv_iload_n hx hb dX2_back_28 rfl (lv_at hl 1 rfl) ?_
    refine ol_isub hx hb (n - 1) i (by omega) dX2_back_29 ?_
    refine ol_cF5 (st1 := [.ref (sa (n - 1 - i))]) (va_runF (As := [.int (nI ((n - 1) - i))]) (rest := []) (hE.1.1.1 9 _ rfl).2 ⟨hx, hb, hml, hown, hts⟩ (jr_get l G b ar n cap md xs ((n - 1) - i) (sa (n - 1 - i)) (by omega) (by omega) (by omega) (hxs _ (by omega))) (va_cwF 1 hts (lw_F q473 q425 q427 q61 q429) rfl rfl rfl (hE.2.1 _ (List.mem_of_getElem? (i := 3) rfl)) (by decide +kernel) ⟨Nat.le_of_ble_eq_true rfl, Nat.le_of_ble_eq_true rfl⟩) (oPc.preV hE.1 (hE.1.recv (ci := 9) (hP 1 _ rfl) rfl) (hP.sub [1, 2] rfl)) rfl rfl hl.1 rfl (lv_room (Nat.le_of_ble_eq_true rfl)) dX2_back_30 ⟨Nat.le_of_ble_eq_true rfl, Nat.le_of_ble_eq_true rfl⟩) rfl ?_
    refine lv_goto (tgt := 39) hx hb dX2_back_35 (by decide) ?_
    exact ol_aretR hx hb hr (Or.inl ⟨_, rfl⟩) hlocks rfl dX2_back_39
set_option maxHeartbeats 4000000 in
set_option maxRecDepth 100000 in
theorem cr_backN (l : Launch) (G : oG) (Z : oZ) (a b ar cap n mo : Nat) (md : Int32) (xs : Nat → Option Nat) (sa : Nat → Nat) (i : Nat) (hn : n ≤ cap) (hc : cap ≤ 40000) (hxs : ∀ j, j < n → xs j = some (sa j)) (hi : n ≤ i) (hi2 : i < 2 ^ 31) : Met l yX2_back (ws_ yX2_back cX2_back 2 (some (.object "java/lang/Object"))) ({ frames := 1, cells := 0, slots := 0, locals := 20 }) (oPc1 G Z [.ref a, .int (nI i)] (fun H => va_P G.1 cl0 ((a, .inr (2, [.int (nI mo), .ref b])) :: (b, .inr (9, [.int md, .ref ar, .int (nI n)])) :: (alT G ar cap xs)) H)) (oR (some (.null))) 0 0 (fun _ => False) := by
  refine Met.ofW (cc := cX2_back) (maxL := 2) (ret := (some (.object "java/lang/Object"))) (by decide) rfl ?_
  intro p e s m args below meth c s₁ B hml hv
  obtain ⟨rfl, hP, hE⟩ := hv
  have hx := B.exec
  have hb := B.bytes
  have hr := B.returns
  have hts := atoms_spec (ws := ws_ yX2_back cX2_back 2 (some (.object "java/lang/Object"))) B.pre
  have hts : ∀ w ∈ lw_all, w.before _ s = true := fun w h => hts w (List.mem_cons_of_mem _ h)
  have hown : s.vm.findClass RX2 = some m.cls := findClass_of_methodNamed B.named
  have hlocks := B.notSynchronized
  have hl := lv_entry ([.ref a, .int (nI i)]) (n := 2) (Nat.le_of_ble_eq_true rfl)
  rw [lg_entry_eq]
  generalize (lg_sl ([.ref a, .int (nI i)]) ++ List.replicate (2 - (lg_sl ([.ref a, .int (nI i)])).length) Slot.unset).toArray = ls at hl ⊢
  replace hl : lv_has ls 2 [(0, .ref a), (1, .int (nI i))] := hl
  refine lv_iload_n hx hb dX2_back_0 rfl (lv_at hl 1 rfl) ?_
  refine lv_aload_n hx hb dX2_back_1 rfl (lv_at hl 0 rfl) ?_
  refine va_get (D := G.1) (ci := 2) (v := .ref b) (C := RX2) (T := TX2) (N := 2) hx hb hts in_X2 hown hE.1.1 hP 0 rfl rfl 1 (by decide) (hts _ q137) (fun _ h9 => h9) rfl dX2_back_2 ?_
  refine ol_cF5 (st1 := [.int (nI n), .int (nI i)]) (va_runF (As := []) (rest := [.int (nI i)]) (hE.1.1.1 9 _ rfl).2 ⟨hx, hb, hml, hown, hts⟩ (jr_size l G b ar n md) (va_cwF 0 hts (lw_F q471 q416 q418 q61 q420) rfl rfl rfl (hE.2.1 _ (List.mem_of_getElem? (i := 2) rfl)) (by decide +kernel) ⟨Nat.le_of_ble_eq_true rfl, Nat.le_of_ble_eq_true rfl⟩) (oPc.preV hE.1 (hE.1.recv (ci := 9) (hP 1 _ rfl) rfl) (hP.sub [1] rfl)) rfl rfl hl.1 rfl (lv_room (Nat.le_of_ble_eq_true rfl)) dX2_back_5 ⟨Nat.le_of_ble_eq_true rfl, Nat.le_of_ble_eq_true rfl⟩) rfl ?_
  refine ol_icmp_ge hx hb i n (by omega) (by omega) (tgt := 38) dX2_back_10 (by decide) (fun c_10 => ?_) (fun c_10 => ?_)
  · refine lv_null hx hb dX2_back_38 ?_
    exact ol_anullR hx hb hr (Or.inl ⟨_, rfl⟩) hlocks rfl dX2_back_39
  · exact absurd c_10 (by omega)
set_option maxHeartbeats 4000000 in
set_option maxRecDepth 100000 in
theorem cm_putAll (l : Launch) (G : oG) (Z : oZ) (a b mo a2 b2 ar2 cap2 n2 mo2 : Nat) (md2 : Int32) (xs xs2 : Nat → Option Nat) (sa2 : Nat → Nat) (hn2 : n2 ≤ cap2) (hc2 : cap2 ≤ 40000) (hxs2 : ∀ j, j < n2 → xs2 j = some (sa2 j)) (hmo : 0 < mo ∧ mo ≤ 40000) (hnm : n2 ≤ mo) (hcap : ∀ i, i ≤ n2 → (alK i).1 ≤ 40000 ∧ (alK i).2.1 ≤ (alK n2).2.1 ∧ (alK i).2.2 ≤ (alK n2).2.2) (sz : Nat) : Met l yX2_putAll (ws_ yX2_putAll cX2_putAll 3 none) ({ frames := 8, cells := (alK n2).2.1, slots := (alK n2).2.2, locals := 182 }) (oPc1 G Z [.ref a, .ref a2] (oPE1 G Z ((a, .inr (2, [.int (nI mo), .ref b])) :: (b, .inr (9, [.int 0, .ref (Z.2.2 0), .int (nI 0)])) :: (a2, .inr (2, [.int (nI mo2), .ref b2])) :: (b2, .inr (9, [.int md2, .ref ar2, .int (nI n2)])) :: ((alT G (Z.2.2 0) 0 xs) ++ (alT G ar2 cap2 xs2))) sz (fun H => ∀ j : Nat, j < n2 → oEl G H (sa2 j)))) (oE G (fun v_ W_ => v_ = none ∧ ∃ (md1 : Int32) (q1 : Nat) (zs : Nat → Option Nat), (n2 = 0 → q1 = Z.2.2 0) ∧ (∀ j, j < n2 → zs j = some (sa2 j)) ∧ W_ = (a, .inr (2, [.int (nI mo), .ref b])) :: (b, .inr (9, [.int md1, .ref q1, .int (nI n2)])) :: (a2, .inr (2, [.int (nI mo2), .ref b2])) :: (b2, .inr (9, [.int md2, .ref ar2, .int (nI n2)])) :: ((alT G q1 (alK n2).1 zs) ++ (alT G ar2 cap2 xs2))) ((a, .inr (2, [.int (nI mo), .ref b])) :: (b, .inr (9, [.int 0, .ref (Z.2.2 0), .int (nI 0)])) :: (a2, .inr (2, [.int (nI mo2), .ref b2])) :: (b2, .inr (9, [.int md2, .ref ar2, .int (nI n2)])) :: ((alT G (Z.2.2 0) 0 xs) ++ (alT G ar2 cap2 xs2))) sz) ((alK n2).2.1) ((alK n2).2.2) (va_A ((a, .inr (2, [.int (nI mo), .ref b])) :: (b, .inr (9, [.int 0, .ref (Z.2.2 0), .int (nI 0)])) :: (a2, .inr (2, [.int (nI mo2), .ref b2])) :: (b2, .inr (9, [.int md2, .ref ar2, .int (nI n2)])) :: ((alT G (Z.2.2 0) 0 xs) ++ (alT G ar2 cap2 xs2))) sz) := by
  refine Met.ofW (cc := cX2_putAll) (maxL := 3) (ret := none) (by decide) rfl ?_
  intro p e s m args below meth c s₁ B hml hv
  obtain ⟨rfl, ⟨hsz, hP, hDb, hB, hX⟩, hE⟩ := hv
  have hD0 : va_D (fun _ => True) ((a, .inr (2, [.int (nI mo), .ref b])) :: (b, .inr (9, [.int 0, .ref (Z.2.2 0), .int (nI 0)])) :: (a2, .inr (2, [.int (nI mo2), .ref b2])) :: (b2, .inr (9, [.int md2, .ref ar2, .int (nI n2)])) :: ((alT G (Z.2.2 0) 0 xs) ++ (alT G ar2 cap2 xs2))) := oD_weak hDb (fun _ _ => trivial)
  have hx := B.exec
  have hb := B.bytes
  have hr := B.returns
  have hts := atoms_spec (ws := ws_ yX2_putAll cX2_putAll 3 none) B.pre
  have hts : ∀ w ∈ lw_all, w.before _ s = true := fun w h => hts w (List.mem_cons_of_mem _ h)
  have hown : s.vm.findClass RX2 = some m.cls := findClass_of_methodNamed B.named
  have hlocks := B.notSynchronized
  subst hsz
  obtain ⟨A, hAe⟩ : ∃ A, A = va_A ((a, .inr (2, [.int (nI mo), .ref b])) :: (b, .inr (9, [.int 0, .ref (Z.2.2 0), .int (nI 0)])) :: (a2, .inr (2, [.int (nI mo2), .ref b2])) :: (b2, .inr (9, [.int md2, .ref ar2, .int (nI n2)])) :: ((alT G (Z.2.2 0) 0 xs) ++ (alT G ar2 cap2 xs2))) s.heap.size := ⟨_, rfl⟩
  have hD : va_D A ((a, .inr (2, [.int (nI mo), .ref b])) :: (b, .inr (9, [.int 0, .ref (Z.2.2 0), .int (nI 0)])) :: (a2, .inr (2, [.int (nI mo2), .ref b2])) :: (b2, .inr (9, [.int md2, .ref ar2, .int (nI n2)])) :: ((alT G (Z.2.2 0) 0 xs) ++ (alT G ar2 cap2 xs2))) := by rw [hAe]; exact hD0.self
  have hA : ∀ q : Nat, s.heap.size ≤ q → A q := fun q h => by rw [hAe]; exact Or.inr h
  have hAZ : ∀ q : Nat, A q → Z.1 ≤ q := fun q h => oA_base hDb hB q (by rw [hAe] at h; exact h)
  have hl := lv_entry ([.ref a, .ref a2]) (n := 3) (Nat.le_of_ble_eq_true rfl)
  rw [lg_entry_eq]
  generalize (lg_sl ([.ref a, .ref a2]) ++ List.replicate (3 - (lg_sl ([.ref a, .ref a2])).length) Slot.unset).toArray = ls at hl ⊢
  replace hl : lv_has ls 3 [(0, .ref a), (1, .ref a2)] := hl
  have hP0 : va_P G.1 cl0 ((a, .inr (2, [.int (nI mo), .ref b])) :: (b, .inr (9, [.int 0, .ref (Z.2.2 0), .int (nI 0)])) :: (a2, .inr (2, [.int (nI mo2), .ref b2])) :: (b2, .inr (9, [.int md2, .ref ar2, .int (nI n2)])) :: ((alT G (Z.2.2 0) 0 xs) ++ (alT G ar2 cap2 xs2))) s.heap := hP
  refine ol_start (A := A) (fun H locs hH hS => ?_)
  have hX0 : ∀ j : Nat, j < n2 → oEl G s.heap (sa2 j) := hX
  have hX1 := hX0
  rw [← hH] at hP hX1
  clear hH
  refine lv_iconst (v := 0) hx hb dX2_putAll_0 (by decide) ?_
  refine lv_istore_n (lv' := [(2, .int 0), (0, .ref a), (1, .ref a2)]) hx hb dX2_putAll_1 rfl hl (by decide) rfl (fun ls hl => ?_)
  refine ol_forC (P := fun i1 H locs ls => lv_has ls 3 [(2, .int (nI i1)), (0, .ref a), (1, .ref a2)] ∧ (∃ (md1 : Int32) (q1 : Nat) (zs : Nat → Option Nat), (i1 = 0 → q1 = Z.2.2 0) ∧ (∀ j, j < i1 → zs j = some (sa2 j)) ∧ va_P G.1 cl0 ((a, .inr (2, [.int (nI mo), .ref b])) :: (b, .inr (9, [.int md1, .ref q1, .int (nI i1)])) :: (a2, .inr (2, [.int (nI mo2), .ref b2])) :: (b2, .inr (9, [.int md2, .ref ar2, .int (nI n2)])) :: ((alT G q1 (alK i1).1 zs) ++ (alT G ar2 cap2 xs2))) H ∧ va_D A ((a, .inr (2, [.int (nI mo), .ref b])) :: (b, .inr (9, [.int md1, .ref q1, .int (nI i1)])) :: (a2, .inr (2, [.int (nI mo2), .ref b2])) :: (b2, .inr (9, [.int md2, .ref ar2, .int (nI n2)])) :: ((alT G q1 (alK i1).1 zs) ++ (alT G ar2 cap2 xs2)))) ∧ va_S A s.heap H locs) (cf := fun i1 => (alK i1).2.1) (sf := fun i1 => (alK i1).2.2) n2 0 (by omega) ⟨lv_sub hl [0, 1, 2] rfl, ⟨0, Z.2.2 0, xs, fun _ => rfl, fun j hj => absurd hj (by omega), hP, hD⟩, hS⟩ (fun i1 H locs ls hi1 hI ih1 => ?_)
  obtain ⟨hl, ⟨md1, q1, zs, hq1, hzs, hP, hD⟩, hS⟩ := hI
  obtain ⟨hk1, hk2, hk3⟩ := alK_le i1
  have hci := hcap i1 hi1
  refine lv_iload_n hx hb dX2_putAll_2 rfl (lv_at hl 0 rfl) ?_
  refine lv_aload_n hx hb dX2_putAll_3 rfl (lv_at hl 2 rfl) ?_
  refine va_get (D := G.1) (ci := 2) (v := .ref b2) (C := RX2) (T := TX2) (N := 2) hx hb hts in_X2 hown hE.1.1 hP 2 rfl rfl 1 (by decide) (hts _ q137) (fun _ h9 => h9) rfl dX2_putAll_4 ?_
  refine ol_cF5 (st1 := [.int (nI n2), .int (nI i1)]) (va_runF (As := []) (rest := [.int (nI i1)]) (hE.1.1.1 9 _ rfl).2 ⟨hx, hb, hml, hown, hts⟩ (jr_size l G b2 ar2 n2 md2) (va_cwF 0 hts (lw_F q471 q416 q418 q61 q420) rfl rfl rfl (hE.2.1 _ (List.mem_of_getElem? (i := 2) rfl)) (by decide +kernel) ⟨Nat.le_of_ble_eq_true rfl, Nat.le_of_ble_eq_true rfl⟩) (oPc.preV hE.1 (hE.1.recv (ci := 9) (hP 3 _ rfl) rfl) (hP.sub [3] rfl)) rfl rfl hl.1 rfl (lv_room (Nat.le_of_ble_eq_true rfl)) dX2_putAll_7 ⟨(by show (alK i1).2.1 + 0 ≤ (alK n2).2.1; omega), (by show (alK i1).2.2 + 0 ≤ (alK n2).2.2; omega)⟩) rfl ?_
  refine ol_icmp_ge hx hb i1 n2 (by omega) (by omega) (tgt := 35) dX2_putAll_12 (by decide) (fun c_12 => ?_) (fun c_12 => ?_)
  · have e1 : n2 = i1 := by omega
    subst e1
    subst hAe
    refine ol_cnt (cells' := (alK n2).2.1) (slots' := (alK n2).2.2) (by omega) (by omega) ?_
    exact ol_vretE hx hb hr hlocks ⟨rfl, md1, q1, zs, hq1, hzs, rfl⟩ hP hD hS dX2_putAll_35
  · have hci2 := hcap (i1 + 1) (by omega)
    have e3 : (alK (i1 + 1)).2.1 = (alK i1).2.1 + alC (alK i1).1 i1 := rfl
    have e4 : (alK (i1 + 1)).2.2 = (alK i1).2.2 + alS (alK i1).1 i1 := rfl
    refine lv_aload_n hx hb dX2_putAll_15 rfl (lv_at hl 1 rfl) ?_
    refine lv_aload_n hx hb dX2_putAll_16 rfl (lv_at hl 2 rfl) ?_
    refine va_get (D := G.1) (ci := 2) (v := .ref b2) (C := RX2) (T := TX2) (N := 2) hx hb hts in_X2 hown hE.1.1 hP 2 rfl rfl 1 (by decide) (hts _ q137) (fun _ h9 => h9) rfl dX2_putAll_17 ?_
    refine lv_iload_n hx hb dX2_putAll_20 rfl (lv_at hl 0 rfl) ?_
    have hx2 : va_P G.1 cl0 [(b2, .inr (9, [.int md2, .ref ar2, .int (nI n2)])), (ar2, .inl (G.2 5, cap2, .inr (.inr (.inr (.inr xs2)))))] H := oP_le hP (fun x => by simp only [oCt, oCt_app, alT_1 (G := G) (b := ar2) (cap := cap2) xs2 (by omega)]; omega)
    refine ol_cF5 (st1 := [.ref (sa2 i1), .ref a]) (va_runF (As := [.int (nI i1)]) (rest := [.ref a]) (hE.1.1.1 9 _ rfl).2 ⟨hx, hb, hml, hown, hts⟩ (jr_get l G b2 ar2 n2 cap2 md2 xs2 i1 (sa2 i1) (by omega) (by omega) (by omega) (hxs2 _ (by omega))) (va_cwF 1 hts (lw_F q473 q425 q427 q61 q429) rfl rfl rfl (hE.2.1 _ (List.mem_of_getElem? (i := 3) rfl)) (by decide +kernel) ⟨Nat.le_of_ble_eq_true rfl, Nat.le_of_ble_eq_true rfl⟩) (oPc.preV hE.1 (hE.1.recv (ci := 9) (hP 3 _ rfl) rfl) hx2) rfl rfl hl.1 rfl (lv_room (Nat.le_of_ble_eq_true rfl)) dX2_putAll_21 ⟨(by show (alK i1).2.1 + 0 ≤ (alK n2).2.1; omega), (by show (alK i1).2.2 + 0 ≤ (alK n2).2.2; omega)⟩) rfl ?_
    have hk : ∀ z, oEl G s.heap z → oEl G H z := (fun z hz => oEl.keep (W0 := (a, .inr (2, [.int (nI mo), .ref b])) :: (b, .inr (9, [.int 0, .ref (Z.2.2 0), .int (nI 0)])) :: (a2, .inr (2, [.int (nI mo2), .ref b2])) :: (b2, .inr (9, [.int md2, .ref ar2, .int (nI n2)])) :: ((alT G (Z.2.2 0) 0 xs) ++ (alT G ar2 cap2 xs2))) (W1 := (a, .inr (2, [.int (nI mo), .ref b])) :: (b, .inr (9, [.int md1, .ref q1, .int (nI i1)])) :: (a2, .inr (2, [.int (nI mo2), .ref b2])) :: (b2, .inr (9, [.int md2, .ref ar2, .int (nI n2)])) :: ((alT G q1 (alK i1).1 zs) ++ (alT G ar2 cap2 xs2))) hE.1 hP0 hP (by rw [← hAe]; exact hS) (fun x hx => by
        simp only [List.mem_cons, List.mem_append, List.not_mem_nil, or_false] at hx
        rcases hx with rfl | rfl | rfl | rfl | hx | hx
        · exact Or.inr ⟨_, List.mem_cons_self⟩
        · exact Or.inr ⟨_, (List.mem_cons_of_mem _ List.mem_cons_self)⟩
        · exact Or.inr ⟨_, (List.mem_cons_of_mem _ (List.mem_cons_of_mem _ List.mem_cons_self))⟩
        · exact Or.inr ⟨_, (List.mem_cons_of_mem _ (List.mem_cons_of_mem _ (List.mem_cons_of_mem _ List.mem_cons_self)))⟩
        · exact Or.inl (alT_mem hx)
        · exact Or.inl (alT_mem hx)) hz)
    refine ol_cP (W0 := (a, .inr (2, [.int (nI mo), .ref b])) :: (b, .inr (9, [.int md1, .ref q1, .int (nI i1)])) :: alT G q1 (alK i1).1 zs) (Wr := (a2, .inr (2, [.int (nI mo2), .ref b2])) :: (b2, .inr (9, [.int md2, .ref ar2, .int (nI n2)])) :: (alT G ar2 cap2 xs2)) (va_runV (As := [.ref (sa2 i1)]) (rest := []) ⟨hx, hb, hml, hown, hts⟩ (cm_put l G Z a b q1 (alK i1).1 i1 mo md1 zs sa2 i1 (sa2 i1) hk1 (fun h => hq1 (by omega)) hk2 (by omega) hzs (by rw [if_neg (by omega)]) hmo H.size) (cwV 1 hts (lw_V q474 q475 q476 q62 q477) rfl rfl rfl (by decide +kernel) ⟨Nat.le_of_ble_eq_true rfl, Nat.le_of_ble_eq_true rfl⟩) (oPc1.preV hE (hE.1.recv (ci := 2) (hP 0 _ rfl) rfl) ⟨rfl, (oP_le hP (fun x => by simp only [oCt, oCt_app, alW_eq]; omega)), oD_weak (oD_le hD ((a2, .inr (2, [.int (nI mo2), .ref b2])) :: (b2, .inr (9, [.int md2, .ref ar2, .int (nI n2)])) :: (alT G ar2 cap2 xs2)) (fun x => by simp only [oCt, oCt_app, alW_eq]; omega)) hAZ, hB.keep hS hAZ, ⟨hk _ (hX0 _ (by omega)), fun j hj => hk _ (hX0 _ (by omega))⟩⟩) rfl rfl hl.1 rfl (lv_room (Nat.le_of_ble_eq_true rfl)) dX2_putAll_26 ⟨(by show (alK i1).2.1 + (alC (alK i1).1 i1) ≤ (alK n2).2.1; omega), (by show (alK i1).2.2 + (alS (alK i1).1 i1) ≤ (alK n2).2.2; omega)⟩) (fun x => by simp only [oCt, oCt_app, alW_eq]; omega) hP hD hS hA (fun v_ W_ H locs hΦ hP hD hS => ?_)
    obtain ⟨rfl, md', q, ws, hw1, hw2, rfl⟩ := hΦ
    replace hP : va_P G.1 cl0 ((a, .inr (2, [.int (nI mo), .ref b])) :: (b, .inr (9, [.int md', .ref q, .int (nI (i1 + 1))])) :: (a2, .inr (2, [.int (nI mo2), .ref b2])) :: (b2, .inr (9, [.int md2, .ref ar2, .int (nI n2)])) :: ((alT G q (alK (i1 + 1)).1 ws) ++ (alT G ar2 cap2 xs2))) H := oP_re hP (fun x => by simp only [oCt, oCt_app, alW_eq, show alN (alK i1).1 i1 = (alK (i1 + 1)).1 from rfl]; omega)
    replace hD : va_D A ((a, .inr (2, [.int (nI mo), .ref b])) :: (b, .inr (9, [.int md', .ref q, .int (nI (i1 + 1))])) :: (a2, .inr (2, [.int (nI mo2), .ref b2])) :: (b2, .inr (9, [.int md2, .ref ar2, .int (nI n2)])) :: ((alT G q (alK (i1 + 1)).1 ws) ++ (alT G ar2 cap2 xs2))) := oD_re hD (fun x => by simp only [oCt, oCt_app, alW_eq, show alN (alK i1).1 i1 = (alK (i1 + 1)).1 from rfl]; omega)
    have hws : ∀ j, j < i1 + 1 → ws j = some (sa2 j) := fun j hj => by
      rcases Nat.lt_or_ge j i1 with h | h
      · rw [hw1 j h, if_neg (by omega)]
      · rw [show j = i1 by omega]; exact hw2
    refine ol_iinc (k := 0) (lv' := [(2, .int (nI (i1 + 1))), (0, .ref a), (1, .ref a2)]) hx hb 1 i1 dX2_putAll_29 hl rfl (by decide) rfl (fun ls hl => ?_)
    refine lv_goto (tgt := 2) hx hb dX2_putAll_32 (by decide) ?_
    exact ih1 H locs ls (by omega) ⟨lv_sub hl [0, 1, 2] rfl, ⟨md', q, ws, (fun h => absurd h (by omega)), hws, hP, hD⟩, hS⟩
