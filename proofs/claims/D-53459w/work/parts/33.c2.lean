/-! THE COMPONENT: strokes and styles -/
def cRight (ft h : Int32) : Bool := if inR ft 0 1 = true then decide (ft = h) else decide (ft = 2) && decide (h = -5)
def cGap (x la : Int32) : Int32 := if 0 ≤ x - la then x - la else 0 - (x - la)
def cDist (d g : UInt32) (la x t : Int32) : UInt32 := if la = -5 then offT d t else FP.fadd (offT d t) (FP.fmul (offT g (cGap x la)) 1056964608)
def fAl (v : UInt32) : UInt32 := if flt v 1056964608 = true then 1056964608 else v
set_option maxHeartbeats 4000000 in
set_option maxRecDepth 100000 in
theorem cm_strokeInit (l : Launch) (G : oG) (a : Nat) (k si dw sh ho ft : Int32)  (sz : Nat) : Met l yX6_init (ws_ yX6_init cX6_init 7 none) ({ frames := 1, cells := 0, slots := 0, locals := 12 }) (oPc G [.ref a, .int k, .int si, .int dw, .int sh, .int ho, .int ft] (oPE G ([(a, .inr (5, [.int 0, .int 0, .int 0, .int 0, .int 0, .int 0]))]) sz (fun _ => True))) (oE G (fun v_ W_ => v_ = none ∧ W_ = [(a, .inr (5, [.int k, .int si, .int dw, .int sh, .int ho, .int ft]))]) ([(a, .inr (5, [.int 0, .int 0, .int 0, .int 0, .int 0, .int 0]))]) sz) 0 0 (va_A ([(a, .inr (5, [.int 0, .int 0, .int 0, .int 0, .int 0, .int 0]))]) sz) := by
  refine Met.ofW (cc := cX6_init) (maxL := 7) (ret := none) (by decide) rfl ?_
  intro p e s m args below meth c s₁ B hml hv
  obtain ⟨rfl, ⟨hsz, hP, hD0, hX⟩, hE⟩ := hv
  have hx := B.exec
  have hb := B.bytes
  have hr := B.returns
  have hts := atoms_spec (ws := ws_ yX6_init cX6_init 7 none) B.pre
  have hts : ∀ w ∈ lw_all, w.before _ s = true := fun w h => hts w (List.mem_cons_of_mem _ h)
  have hown : s.vm.findClass RX6 = some m.cls := findClass_of_methodNamed B.named
  have hlocks := B.notSynchronized
  have hin : meth.name = "<init>" := (name_of_methodNamed B.named B.method).1
  subst hsz
  obtain ⟨A, hAe⟩ : ∃ A, A = va_A ([(a, .inr (5, [.int 0, .int 0, .int 0, .int 0, .int 0, .int 0]))]) s.heap.size := ⟨_, rfl⟩
  have hD : va_D A ([(a, .inr (5, [.int 0, .int 0, .int 0, .int 0, .int 0, .int 0]))]) := by rw [hAe]; exact hD0.self
  have hA : ∀ q : Nat, s.heap.size ≤ q → A q := fun q h => by rw [hAe]; exact Or.inr h
  have hl := lv_entry ([.ref a, .int k, .int si, .int dw, .int sh, .int ho, .int ft]) (n := 7) (Nat.le_of_ble_eq_true rfl)
  rw [lg_entry_eq]
  generalize (lg_sl ([.ref a, .int k, .int si, .int dw, .int sh, .int ho, .int ft]) ++ List.replicate (7 - (lg_sl ([.ref a, .int k, .int si, .int dw, .int sh, .int ho, .int ft])).length) Slot.unset).toArray = ls at hl ⊢
  replace hl : lv_has ls 7 [(0, .ref a), (1, .int k), (2, .int si), (3, .int dw), (4, .int sh), (5, .int ho), (6, .int ft)] := hl
  have hP0 : va_P G.1 cl0 ([(a, .inr (5, [.int 0, .int 0, .int 0, .int 0, .int 0, .int 0]))]) s.heap := hP
  refine ol_start (A := A) (fun H locs hH hS => ?_)
  rw [← hH] at hP
  clear hH
  refine lv_aload_n hx hb dX6_init_0 rfl (lv_at hl 0 rfl) ?_
  refine W.objInit hx hb hown (hts _ q632) (hts _ q94) (hts _ q95) rfl (by rw [hml]; exact hl.1) rfl dX6_init_1 (Nat.le_of_ble_eq_true rfl) (Nat.le_of_ble_eq_true rfl) ?_
  refine W.eq (g2 := F0 m 4 ls []) rfl ?_
  refine lv_aload_n hx hb dX6_init_4 rfl (lv_at hl 0 rfl) ?_
  refine lv_iload_n hx hb dX6_init_5 rfl (lv_at hl 1 rfl) ?_
  refine va_putF (D := G.1) (ci := 5) (v := .int k) (ty := .int) (C := RX6) (T := TX6) (N := 6) hx hb hts in_X6 tyX6 tyX6_ok nmX6 hown hE.1 hP hD hS 0 rfl rfl 0 (by decide) (hts _ q633) (fun _ h9 => h9) rfl hin rfl (by decide +kernel) rfl rfl (Nat.le_of_ble_eq_true rfl) dX6_init_6 (fun H locs hP hD hS => ?_)
  replace hP : va_P G.1 cl0 ([(a, .inr (5, [.int k, .int 0, .int 0, .int 0, .int 0, .int 0]))]) H := hP
  replace hD : va_D A ([(a, .inr (5, [.int k, .int 0, .int 0, .int 0, .int 0, .int 0]))]) := hD
  refine lv_aload_n hx hb dX6_init_9 rfl (lv_at hl 0 rfl) ?_
  refine lv_iload_n hx hb dX6_init_10 rfl (lv_at hl 2 rfl) ?_
  refine va_putF (D := G.1) (ci := 5) (v := .int si) (ty := .int) (C := RX6) (T := TX6) (N := 6) hx hb hts in_X6 tyX6 tyX6_ok nmX6 hown hE.1 hP hD hS 0 rfl rfl 1 (by decide) (hts _ q636) (fun _ h9 => h9) rfl hin rfl (by decide +kernel) rfl rfl (Nat.le_of_ble_eq_true rfl) dX6_init_11 (fun H locs hP hD hS => ?_)
  replace hP : va_P G.1 cl0 ([(a, .inr (5, [.int k, .int si, .int 0, .int 0, .int 0, .int 0]))]) H := hP
  replace hD : va_D A ([(a, .inr (5, [.int k, .int si, .int 0, .int 0, .int 0, .int 0]))]) := hD
  refine lv_aload_n hx hb dX6_init_14 rfl (lv_at hl 0 rfl) ?_
  refine lv_iload_n hx hb dX6_init_15 rfl (lv_at hl 3 rfl) ?_
  refine va_putF (D := G.1) (ci := 5) (v := .int dw) (ty := .int) (C := RX6) (T := TX6) (N := 6) hx hb hts in_X6 tyX6 tyX6_ok nmX6 hown hE.1 hP hD hS 0 rfl rfl 2 (by decide) (hts _ q639) (fun _ h9 => h9) rfl hin rfl (by decide +kernel) rfl rfl (Nat.le_of_ble_eq_true rfl) dX6_init_16 (fun H locs hP hD hS => ?_)
  replace hP : va_P G.1 cl0 ([(a, .inr (5, [.int k, .int si, .int dw, .int 0, .int 0, .int 0]))]) H := hP
  replace hD : va_D A ([(a, .inr (5, [.int k, .int si, .int dw, .int 0, .int 0, .int 0]))]) := hD
  refine lv_aload_n hx hb dX6_init_19 rfl (lv_at hl 0 rfl) ?_
  refine lv_iload hx hb dX6_init_20 (lv_at hl 4 rfl) ?_
  refine va_putF (D := G.1) (ci := 5) (v := .int sh) (ty := .int) (C := RX6) (T := TX6) (N := 6) hx hb hts in_X6 tyX6 tyX6_ok nmX6 hown hE.1 hP hD hS 0 rfl rfl 3 (by decide) (hts _ q642) (fun _ h9 => h9) rfl hin rfl (by decide +kernel) rfl rfl (Nat.le_of_ble_eq_true rfl) dX6_init_22 (fun H locs hP hD hS => ?_)
  replace hP : va_P G.1 cl0 ([(a, .inr (5, [.int k, .int si, .int dw, .int sh, .int 0, .int 0]))]) H := hP
  replace hD : va_D A ([(a, .inr (5, [.int k, .int si, .int dw, .int sh, .int 0, .int 0]))]) := hD
  refine lv_aload_n hx hb dX6_init_25 rfl (lv_at hl 0 rfl) ?_
  refine lv_iload hx hb dX6_init_26 (lv_at hl 5 rfl) ?_
  refine va_putF (D := G.1) (ci := 5) (v := .int ho) (ty := .int) (C := RX6) (T := TX6) (N := 6) hx hb hts in_X6 tyX6 tyX6_ok nmX6 hown hE.1 hP hD hS 0 rfl rfl 4 (by decide) (hts _ q645) (fun _ h9 => h9) rfl hin rfl (by decide +kernel) rfl rfl (Nat.le_of_ble_eq_true rfl) dX6_init_28 (fun H locs hP hD hS => ?_)
  replace hP : va_P G.1 cl0 ([(a, .inr (5, [.int k, .int si, .int dw, .int sh, .int ho, .int 0]))]) H := hP
  replace hD : va_D A ([(a, .inr (5, [.int k, .int si, .int dw, .int sh, .int ho, .int 0]))]) := hD
  refine lv_aload_n hx hb dX6_init_31 rfl (lv_at hl 0 rfl) ?_
  refine lv_iload hx hb dX6_init_32 (lv_at hl 6 rfl) ?_
  refine va_putF (D := G.1) (ci := 5) (v := .int ft) (ty := .int) (C := RX6) (T := TX6) (N := 6) hx hb hts in_X6 tyX6 tyX6_ok nmX6 hown hE.1 hP hD hS 0 rfl rfl 5 (by decide) (hts _ q647) (fun _ h9 => h9) rfl hin rfl (by decide +kernel) rfl rfl (Nat.le_of_ble_eq_true rfl) dX6_init_34 (fun H locs hP hD hS => ?_)
  replace hP : va_P G.1 cl0 ([(a, .inr (5, [.int k, .int si, .int dw, .int sh, .int ho, .int ft]))]) H := hP
  replace hD : va_D A ([(a, .inr (5, [.int k, .int si, .int dw, .int sh, .int ho, .int ft]))]) := hD
  subst hAe
  exact ol_vretE hx hb hr hlocks ⟨rfl, rfl⟩ hP hD hS dX6_init_37
set_option maxHeartbeats 4000000 in
set_option maxRecDepth 100000 in
theorem cm_withFate (l : Launch) (G : oG) (a : Nat) (k si dw sh ho ft : Int32) (ft2 : Int32)  (sz : Nat) : Met l yX6_withFate (ws_ yX6_withFate cX6_withFate 2 (some (.object "BlanketKeys$Stroke"))) ({ frames := 2, cells := 1, slots := 6, locals := 38 }) (oPc G [.ref a, .int ft2] (oPE G ([(a, .inr (5, [.int k, .int si, .int dw, .int sh, .int ho, .int ft]))]) sz (fun _ => True))) (oE G (fun v_ W_ => ∃ q : Nat, v_ = some (.ref q) ∧ W_ = [(a, .inr (5, [.int k, .int si, .int dw, .int sh, .int ho, .int ft])), (q, .inr (5, [.int k, .int si, .int dw, .int sh, .int ho, .int ft2]))]) ([(a, .inr (5, [.int k, .int si, .int dw, .int sh, .int ho, .int ft]))]) sz) 1 6 (va_A ([(a, .inr (5, [.int k, .int si, .int dw, .int sh, .int ho, .int ft]))]) sz) := by
  refine Met.ofW (cc := cX6_withFate) (maxL := 2) (ret := (some (.object "BlanketKeys$Stroke"))) (by decide) rfl ?_
  intro p e s m args below meth c s₁ B hml hv
  obtain ⟨rfl, ⟨hsz, hP, hD0, hX⟩, hE⟩ := hv
  have hx := B.exec
  have hb := B.bytes
  have hr := B.returns
  have hts := atoms_spec (ws := ws_ yX6_withFate cX6_withFate 2 (some (.object "BlanketKeys$Stroke"))) B.pre
  have hts : ∀ w ∈ lw_all, w.before _ s = true := fun w h => hts w (List.mem_cons_of_mem _ h)
  have hown : s.vm.findClass RX6 = some m.cls := findClass_of_methodNamed B.named
  have hlocks := B.notSynchronized
  subst hsz
  obtain ⟨A, hAe⟩ : ∃ A, A = va_A ([(a, .inr (5, [.int k, .int si, .int dw, .int sh, .int ho, .int ft]))]) s.heap.size := ⟨_, rfl⟩
  have hD : va_D A ([(a, .inr (5, [.int k, .int si, .int dw, .int sh, .int ho, .int ft]))]) := by rw [hAe]; exact hD0.self
  have hA : ∀ q : Nat, s.heap.size ≤ q → A q := fun q h => by rw [hAe]; exact Or.inr h
  have hl := lv_entry ([.ref a, .int ft2]) (n := 2) (Nat.le_of_ble_eq_true rfl)
  rw [lg_entry_eq]
  generalize (lg_sl ([.ref a, .int ft2]) ++ List.replicate (2 - (lg_sl ([.ref a, .int ft2])).length) Slot.unset).toArray = ls at hl ⊢
  replace hl : lv_has ls 2 [(0, .ref a), (1, .int ft2)] := hl
  have hP0 : va_P G.1 cl0 ([(a, .inr (5, [.int k, .int si, .int dw, .int sh, .int ho, .int ft]))]) s.heap := hP
  refine ol_start (A := A) (fun H locs hH hS => ?_)
  rw [← hH] at hP
  clear hH
  refine va_new (D := G.1) (cl := cl0) (ci := 5) (fs := [.int 0, .int 0, .int 0, .int 0, .int 0, .int 0]) (C := RX6) (T := TX6) (N := 6) hx hb hts in_X6 tyX6 tyX6_ok hown (hts _ q726) (hts _ q604) (hts _ q78) hE.1 hP hD hS hA rfl (fun j hj => by rcases (show j = 0 ∨ j = 1 ∨ j = 2 ∨ j = 3 ∨ j = 4 ∨ j = 5 by omega) with rfl | rfl | rfl | rfl | rfl | rfl <;> rfl) (Nat.le_of_ble_eq_true rfl) (Nat.le_of_ble_eq_true rfl) dX6_withFate_0 (fun qn1 H hP hD hS => ?_)
  replace hP : va_P G.1 cl0 ([(a, .inr (5, [.int k, .int si, .int dw, .int sh, .int ho, .int ft])), (qn1, .inr (5, [.int 0, .int 0, .int 0, .int 0, .int 0, .int 0]))]) H := hP
  replace hD : va_D A ([(a, .inr (5, [.int k, .int si, .int dw, .int sh, .int ho, .int ft])), (qn1, .inr (5, [.int 0, .int 0, .int 0, .int 0, .int 0, .int 0]))]) := hD
  refine lv_dup hx hb dX6_withFate_3 rfl ?_
  refine lv_aload_n hx hb dX6_withFate_4 rfl (lv_at hl 0 rfl) ?_
  refine va_get (D := G.1) (ci := 5) (v := .int k) (C := RX6) (T := TX6) (N := 6) hx hb hts in_X6 hown hE.1 hP 0 rfl rfl 0 (by decide) (hts _ q633) (fun _ h9 => h9) rfl dX6_withFate_5 ?_
  refine lv_aload_n hx hb dX6_withFate_8 rfl (lv_at hl 0 rfl) ?_
  refine va_get (D := G.1) (ci := 5) (v := .int si) (C := RX6) (T := TX6) (N := 6) hx hb hts in_X6 hown hE.1 hP 0 rfl rfl 1 (by decide) (hts _ q636) (fun _ h9 => h9) rfl dX6_withFate_9 ?_
  refine lv_aload_n hx hb dX6_withFate_12 rfl (lv_at hl 0 rfl) ?_
  refine va_get (D := G.1) (ci := 5) (v := .int dw) (C := RX6) (T := TX6) (N := 6) hx hb hts in_X6 hown hE.1 hP 0 rfl rfl 2 (by decide) (hts _ q639) (fun _ h9 => h9) rfl dX6_withFate_13 ?_
  refine lv_aload_n hx hb dX6_withFate_16 rfl (lv_at hl 0 rfl) ?_
  refine va_get (D := G.1) (ci := 5) (v := .int sh) (C := RX6) (T := TX6) (N := 6) hx hb hts in_X6 hown hE.1 hP 0 rfl rfl 3 (by decide) (hts _ q642) (fun _ h9 => h9) rfl dX6_withFate_17 ?_
  refine lv_aload_n hx hb dX6_withFate_20 rfl (lv_at hl 0 rfl) ?_
  refine va_get (D := G.1) (ci := 5) (v := .int ho) (C := RX6) (T := TX6) (N := 6) hx hb hts in_X6 hown hE.1 hP 0 rfl rfl 4 (by decide) (hts _ q645) (fun _ h9 => h9) rfl dX6_withFate_21 ?_
  refine lv_iload_n hx hb dX6_withFate_24 rfl (lv_at hl 1 rfl) ?_
  refine ol_cJ (Wr := [(a, .inr (5, [.int k, .int si, .int dw, .int sh, .int ho, .int ft]))]) (va_runI (As := [.int k, .int si, .int dw, .int sh, .int ho, .int ft2]) (rest := [.ref qn1]) ⟨hx, hb, hml, hown, hts⟩ (cm_strokeInit l G qn1 k si dw sh ho ft2 H.size) (cwI 6 hts (lw_meth q631) rfl rfl rfl (hts _ q78) (hts _ q727) (hts _ q630) rfl (by decide +kernel) ⟨Nat.le_of_ble_eq_true rfl, Nat.le_of_ble_eq_true rfl⟩) (oPc.preS hE ⟨rfl, (hP.sub [1] rfl), oD_weak (hD.sub [1] (by decide) rfl) (fun _ _ => trivial), trivial⟩) rfl rfl hl.1 rfl (lv_room (Nat.le_of_ble_eq_true rfl)) dX6_withFate_25 ⟨Nat.le_of_ble_eq_true rfl, Nat.le_of_ble_eq_true rfl⟩) hP hD hS hA [1] [0] rfl rfl (by decide) (by decide) (fun v_ W_ H locs hΦ hP hD hS => ?_)
  obtain ⟨rfl, rfl⟩ := hΦ
  replace hP : va_P G.1 cl0 ([(a, .inr (5, [.int k, .int si, .int dw, .int sh, .int ho, .int ft])), (qn1, .inr (5, [.int k, .int si, .int dw, .int sh, .int ho, .int ft2]))]) H := hP
  replace hD : va_D A ([(a, .inr (5, [.int k, .int si, .int dw, .int sh, .int ho, .int ft])), (qn1, .inr (5, [.int k, .int si, .int dw, .int sh, .int ho, .int ft2]))]) := hD
  subst hAe
  exact ol_aretE hx hb hr (Or.inl ⟨_, rfl⟩) hlocks ⟨_, rfl, rfl⟩ hP hD hS dX6_withFate_28
set_option maxHeartbeats 4000000 in
set_option maxRecDepth 100000 in
theorem cr_isSame (l : Launch) (G : oG) (a b : Nat) (k si dw sh ho ft k2 si2 dw2 sh2 ho2 ft2 : Int32)  : Met l yX6_isSame (ws_ yX6_isSame cX6_isSame 2 (some .boolean)) ({ frames := 0, cells := 0, slots := 0, locals := 0 }) (oPc G [.ref a, .ref b] (fun H => va_P G.1 cl0 ([(a, .inr (5, [.int k, .int si, .int dw, .int sh, .int ho, .int ft])), (b, .inr (5, [.int k2, .int si2, .int dw2, .int sh2, .int ho2, .int ft2]))]) H)) (oR (some (.int (zB (decide (k = k2) && decide (si = si2)))))) 0 0 (fun _ => False) := by
  refine Met.ofW (cc := cX6_isSame) (maxL := 2) (ret := (some .boolean)) (by decide) rfl ?_
  intro p e s m args below meth c s₁ B hml hv
  obtain ⟨rfl, hP, hE⟩ := hv
  have hx := B.exec
  have hb := B.bytes
  have hr := B.returns
  have hts := atoms_spec (ws := ws_ yX6_isSame cX6_isSame 2 (some .boolean)) B.pre
  have hts : ∀ w ∈ lw_all, w.before _ s = true := fun w h => hts w (List.mem_cons_of_mem _ h)
  have hown : s.vm.findClass RX6 = some m.cls := findClass_of_methodNamed B.named
  have hlocks := B.notSynchronized
  have hl := lv_entry ([.ref a, .ref b]) (n := 2) (Nat.le_of_ble_eq_true rfl)
  rw [lg_entry_eq]
  generalize (lg_sl ([.ref a, .ref b]) ++ List.replicate (2 - (lg_sl ([.ref a, .ref b])).length) Slot.unset).toArray = ls at hl ⊢
  replace hl : lv_has ls 2 [(0, .ref a), (1, .ref b)] := hl
  refine lv_aload_n hx hb dX6_isSame_0 rfl (lv_at hl 0 rfl) ?_
  refine va_get (D := G.1) (ci := 5) (v := .int k) (C := RX6) (T := TX6) (N := 6) hx hb hts in_X6 hown hE.1 hP 0 rfl rfl 0 (by decide) (hts _ q633) (fun _ h9 => h9) rfl dX6_isSame_1 ?_
  refine lv_aload_n hx hb dX6_isSame_4 rfl (lv_at hl 1 rfl) ?_
  refine va_get (D := G.1) (ci := 5) (v := .int k2) (C := RX6) (T := TX6) (N := 6) hx hb hts in_X6 hown hE.1 hP 1 rfl rfl 0 (by decide) (hts _ q633) (fun _ h9 => h9) rfl dX6_isSame_5 ?_
  refine lv_icmp_ne (tgt := 26) hx hb dX6_isSame_8 (by decide) (fun c_8 => ?_) (fun c_8 => ?_)
  · refine lv_iconst (v := 0) hx hb dX6_isSame_26 (by decide) ?_
    exact ol_zretR hx hb hr hlocks rfl (by simp [zB, c_8]) dX6_isSame_27
  · refine lv_aload_n hx hb dX6_isSame_11 rfl (lv_at hl 0 rfl) ?_
    refine va_get (D := G.1) (ci := 5) (v := .int si) (C := RX6) (T := TX6) (N := 6) hx hb hts in_X6 hown hE.1 hP 0 rfl rfl 1 (by decide) (hts _ q636) (fun _ h9 => h9) rfl dX6_isSame_12 ?_
    refine lv_aload_n hx hb dX6_isSame_15 rfl (lv_at hl 1 rfl) ?_
    refine va_get (D := G.1) (ci := 5) (v := .int si2) (C := RX6) (T := TX6) (N := 6) hx hb hts in_X6 hown hE.1 hP 1 rfl rfl 1 (by decide) (hts _ q636) (fun _ h9 => h9) rfl dX6_isSame_16 ?_
    refine lv_icmp_ne (tgt := 26) hx hb dX6_isSame_19 (by decide) (fun c_19 => ?_) (fun c_19 => ?_)
    · refine lv_iconst (v := 0) hx hb dX6_isSame_26 (by decide) ?_
      exact ol_zretR hx hb hr hlocks rfl (by simp [zB, c_8, c_19]) dX6_isSame_27
    · refine lv_iconst (v := 1) hx hb dX6_isSame_22 (by decide) ?_
      refine lv_goto (tgt := 27) hx hb dX6_isSame_23 (by decide) ?_
      exact ol_zretR hx hb hr hlocks rfl (by simp [zB, c_8, c_19]) dX6_isSame_27
set_option maxHeartbeats 4000000 in
set_option maxRecDepth 100000 in
theorem cr_isRight (l : Launch) (G : oG) (a : Nat) (k si dw sh ho ft : Int32)  : Met l yX6_isRight (ws_ yX6_isRight cX6_isRight 1 (some .boolean)) ({ frames := 2, cells := 0, slots := 0, locals := 42 }) (oPc G [.ref a] (fun H => va_P G.1 cl0 ([(a, .inr (5, [.int k, .int si, .int dw, .int sh, .int ho, .int ft]))]) H)) (oR (some (.int (zB (cRight ft ho))))) 0 0 (fun _ => False) := by
  refine Met.ofW (cc := cX6_isRight) (maxL := 1) (ret := (some .boolean)) (by decide) rfl ?_
  intro p e s m args below meth c s₁ B hml hv
  obtain ⟨rfl, hP, hE⟩ := hv
  have hx := B.exec
  have hb := B.bytes
  have hr := B.returns
  have hts := atoms_spec (ws := ws_ yX6_isRight cX6_isRight 1 (some .boolean)) B.pre
  have hts : ∀ w ∈ lw_all, w.before _ s = true := fun w h => hts w (List.mem_cons_of_mem _ h)
  have hown : s.vm.findClass RX6 = some m.cls := findClass_of_methodNamed B.named
  have hlocks := B.notSynchronized
  have hl := lv_entry ([.ref a]) (n := 1) (Nat.le_of_ble_eq_true rfl)
  rw [lg_entry_eq]
  generalize (lg_sl ([.ref a]) ++ List.replicate (1 - (lg_sl ([.ref a])).length) Slot.unset).toArray = ls at hl ⊢
  replace hl : lv_has ls 1 [(0, .ref a)] := hl
  refine lv_aload_n hx hb dX6_isRight_0 rfl (lv_at hl 0 rfl) ?_
  refine va_get (D := G.1) (ci := 5) (v := .int ft) (C := RX6) (T := TX6) (N := 6) hx hb hts in_X6 hown hE.1 hP 0 rfl rfl 5 (by decide) (hts _ q647) (fun _ h9 => h9) rfl dX6_isRight_1 ?_
  refine ol_cR (st1 := [.int (zB (inR ft 0 1))]) (va_runSN (As := [.int ft]) (rest := []) ⟨hx, hb, hml, hown, hts⟩ (cr_isTypist l G ft ) ⟨va_cnB 1 hts (lw_meth q532) rfl rfl rfl (hE.2.1 _ q672 rfl) (hts _ q57) (by decide +kernel) ⟨Nat.le_of_ble_eq_true rfl, Nat.le_of_ble_eq_true rfl⟩, hts _ q531, trivial⟩ (oPc.preS hE trivial) rfl rfl hl.1 rfl (lv_room (Nat.le_of_ble_eq_true rfl)) dX6_isRight_4 ⟨Nat.le_of_ble_eq_true rfl, Nat.le_of_ble_eq_true rfl⟩) rfl ?_
  refine ol_if_eqB hx hb (inR ft 0 1) (tgt := 29) dX6_isRight_7 (by decide) (fun c_7 => ?_) (fun c_7 => ?_)
  · refine lv_aload_n hx hb dX6_isRight_29 rfl (lv_at hl 0 rfl) ?_
    refine va_get (D := G.1) (ci := 5) (v := .int ft) (C := RX6) (T := TX6) (N := 6) hx hb hts in_X6 hown hE.1 hP 0 rfl rfl 5 (by decide) (hts _ q647) (fun _ h9 => h9) rfl dX6_isRight_30 ?_
    refine lv_iconst (v := 2) hx hb dX6_isRight_33 (by decide) ?_
    refine lv_icmp_ne (tgt := 50) hx hb dX6_isRight_34 (by decide) (fun c_34 => ?_) (fun c_34 => ?_)
    · refine lv_iconst (v := 0) hx hb dX6_isRight_50 (by decide) ?_
      exact ol_zretR hx hb hr hlocks rfl (by unfold cRight; rw [c_7]; simp [zB, c_34]) dX6_isRight_51
    · refine lv_aload_n hx hb dX6_isRight_37 rfl (lv_at hl 0 rfl) ?_
      refine va_get (D := G.1) (ci := 5) (v := .int ho) (C := RX6) (T := TX6) (N := 6) hx hb hts in_X6 hown hE.1 hP 0 rfl rfl 4 (by decide) (hts _ q645) (fun _ h9 => h9) rfl dX6_isRight_38 ?_
      refine lv_bipush (v := (-5)) hx hb dX6_isRight_41 (by decide) ?_
      refine lv_icmp_ne (tgt := 50) hx hb dX6_isRight_43 (by decide) (fun c_43 => ?_) (fun c_43 => ?_)
      · refine lv_iconst (v := 0) hx hb dX6_isRight_50 (by decide) ?_
        exact ol_zretR hx hb hr hlocks rfl (by unfold cRight; rw [c_7]; simp [zB, c_34, c_43]) dX6_isRight_51
      · refine lv_iconst (v := 1) hx hb dX6_isRight_46 (by decide) ?_
        refine lv_goto (tgt := 51) hx hb dX6_isRight_47 (by decide) ?_
        exact ol_zretR hx hb hr hlocks rfl (by unfold cRight; rw [c_7]; simp [zB, c_34, c_43]) dX6_isRight_51
  · refine lv_aload_n hx hb dX6_isRight_10 rfl (lv_at hl 0 rfl) ?_
    refine va_get (D := G.1) (ci := 5) (v := .int ft) (C := RX6) (T := TX6) (N := 6) hx hb hts in_X6 hown hE.1 hP 0 rfl rfl 5 (by decide) (hts _ q647) (fun _ h9 => h9) rfl dX6_isRight_11 ?_
    refine lv_aload_n hx hb dX6_isRight_14 rfl (lv_at hl 0 rfl) ?_
    refine va_get (D := G.1) (ci := 5) (v := .int ho) (C := RX6) (T := TX6) (N := 6) hx hb hts in_X6 hown hE.1 hP 0 rfl rfl 4 (by decide) (hts _ q645) (fun _ h9 => h9) rfl dX6_isRight_15 ?_
    refine lv_icmp_ne (tgt := 25) hx hb dX6_isRight_18 (by decide) (fun c_18 => ?_) (fun c_18 => ?_)
    · refine lv_iconst (v := 0) hx hb dX6_isRight_25 (by decide) ?_
      refine lv_goto (tgt := 51) hx hb dX6_isRight_26 (by decide) ?_
      exact ol_zretR hx hb hr hlocks rfl (by unfold cRight; rw [c_7]; simp [zB, c_18]) dX6_isRight_51
    · refine lv_iconst (v := 1) hx hb dX6_isRight_21 (by decide) ?_
      refine lv_goto (tgt := 51) hx hb dX6_isRight_22 (by decide) ?_
      exact ol_zretR hx hb hr hlocks rfl (by unfold cRight; rw [c_7]; simp [zB, c_18]) dX6_isRight_51
set_option maxHeartbeats 4000000 in
set_option maxRecDepth 100000 in
theorem cm_styleInit (l : Launch) (G : oG) (a : Nat) (d g : UInt32)  (sz : Nat) : Met l yX3_init (ws_ yX3_init cX3_init 3 none) ({ frames := 1, cells := 0, slots := 0, locals := 12 }) (oPc G [.ref a, .float d, .float g] (oPE G ([(a, .inr (3, [.float 0, .float 0, .int 0]))]) sz (fun _ => True))) (oE G (fun v_ W_ => v_ = none ∧ W_ = [(a, .inr (3, [.float d, .float g, .int (-5)]))]) ([(a, .inr (3, [.float 0, .float 0, .int 0]))]) sz) 0 0 (va_A ([(a, .inr (3, [.float 0, .float 0, .int 0]))]) sz) := by
  refine Met.ofW (cc := cX3_init) (maxL := 3) (ret := none) (by decide) rfl ?_
  intro p e s m args below meth c s₁ B hml hv
  obtain ⟨rfl, ⟨hsz, hP, hD0, hX⟩, hE⟩ := hv
  have hx := B.exec
  have hb := B.bytes
  have hr := B.returns
  have hts := atoms_spec (ws := ws_ yX3_init cX3_init 3 none) B.pre
  have hts : ∀ w ∈ lw_all, w.before _ s = true := fun w h => hts w (List.mem_cons_of_mem _ h)
  have hown : s.vm.findClass RX3 = some m.cls := findClass_of_methodNamed B.named
  have hlocks := B.notSynchronized
  have hin : meth.name = "<init>" := (name_of_methodNamed B.named B.method).1
  subst hsz
  obtain ⟨A, hAe⟩ : ∃ A, A = va_A ([(a, .inr (3, [.float 0, .float 0, .int 0]))]) s.heap.size := ⟨_, rfl⟩
  have hD : va_D A ([(a, .inr (3, [.float 0, .float 0, .int 0]))]) := by rw [hAe]; exact hD0.self
  have hA : ∀ q : Nat, s.heap.size ≤ q → A q := fun q h => by rw [hAe]; exact Or.inr h
  have hl := lv_entry ([.ref a, .float d, .float g]) (n := 3) (Nat.le_of_ble_eq_true rfl)
  rw [lg_entry_eq]
  generalize (lg_sl ([.ref a, .float d, .float g]) ++ List.replicate (3 - (lg_sl ([.ref a, .float d, .float g])).length) Slot.unset).toArray = ls at hl ⊢
  replace hl : lv_has ls 3 [(0, .ref a), (1, .float d), (2, .float g)] := hl
  have hP0 : va_P G.1 cl0 ([(a, .inr (3, [.float 0, .float 0, .int 0]))]) s.heap := hP
  refine ol_start (A := A) (fun H locs hH hS => ?_)
  rw [← hH] at hP
  clear hH
  refine lv_aload_n hx hb dX3_init_0 rfl (lv_at hl 0 rfl) ?_
  refine W.objInit hx hb hown (hts _ q152) (hts _ q94) (hts _ q95) rfl (by rw [hml]; exact hl.1) rfl dX3_init_1 (Nat.le_of_ble_eq_true rfl) (Nat.le_of_ble_eq_true rfl) ?_
  refine W.eq (g2 := F0 m 4 ls []) rfl ?_
  refine lv_aload_n hx hb dX3_init_4 rfl (lv_at hl 0 rfl) ?_
  refine lv_bipush (v := (-5)) hx hb dX3_init_5 (by decide) ?_
  refine va_put (D := G.1) (ci := 3) (v := .int (-5)) (ty := .int) (C := RX3) (T := TX3) (N := 3) hx hb hts in_X3 tyX3 tyX3_ok nmX3 hown hE.1 hP hD hS 0 rfl rfl 2 (by decide) (hts _ q157) (fun _ h9 => h9) rfl (by decide +kernel) rfl rfl (Nat.le_of_ble_eq_true rfl) dX3_init_7 (fun H locs hP hD hS => ?_)
  replace hP : va_P G.1 cl0 ([(a, .inr (3, [.float 0, .float 0, .int (-5)]))]) H := hP
  replace hD : va_D A ([(a, .inr (3, [.float 0, .float 0, .int (-5)]))]) := hD
  refine lv_aload_n hx hb dX3_init_10 rfl (lv_at hl 0 rfl) ?_
  refine lv_fload_n hx hb dX3_init_11 rfl (lv_at hl 1 rfl) ?_
  refine va_put (D := G.1) (ci := 3) (v := .float d) (ty := .float) (C := RX3) (T := TX3) (N := 3) hx hb hts in_X3 tyX3 tyX3_ok nmX3 hown hE.1 hP hD hS 0 rfl rfl 0 (by decide) (hts _ q153) (fun _ h9 => h9) rfl (by decide +kernel) rfl rfl (Nat.le_of_ble_eq_true rfl) dX3_init_12 (fun H locs hP hD hS => ?_)
  replace hP : va_P G.1 cl0 ([(a, .inr (3, [.float d, .float 0, .int (-5)]))]) H := hP
  replace hD : va_D A ([(a, .inr (3, [.float d, .float 0, .int (-5)]))]) := hD
  refine lv_aload_n hx hb dX3_init_15 rfl (lv_at hl 0 rfl) ?_
  refine lv_fload_n hx hb dX3_init_16 rfl (lv_at hl 2 rfl) ?_
  refine va_put (D := G.1) (ci := 3) (v := .float g) (ty := .float) (C := RX3) (T := TX3) (N := 3) hx hb hts in_X3 tyX3 tyX3_ok nmX3 hown hE.1 hP hD hS 0 rfl rfl 1 (by decide) (hts _ q155) (fun _ h9 => h9) rfl (by decide +kernel) rfl rfl (Nat.le_of_ble_eq_true rfl) dX3_init_17 (fun H locs hP hD hS => ?_)
  replace hP : va_P G.1 cl0 ([(a, .inr (3, [.float d, .float g, .int (-5)]))]) H := hP
  replace hD : va_D A ([(a, .inr (3, [.float d, .float g, .int (-5)]))]) := hD
  subst hAe
  exact ol_vretE hx hb hr hlocks ⟨rfl, rfl⟩ hP hD hS dX3_init_20
set_option maxHeartbeats 4000000 in
set_option maxRecDepth 100000 in
theorem cm_styleCopy (l : Launch) (G : oG) (a : Nat) (d g : UInt32) (la : Int32)  (sz : Nat) : Met l yX3_copy (ws_ yX3_copy cX3_copy 2 (some (.object "BlanketKeys$Style"))) ({ frames := 2, cells := 1, slots := 3, locals := 34 }) (oPc G [.ref a] (oPE G ([(a, .inr (3, [.float d, .float g, .int la]))]) sz (fun _ => True))) (oE G (fun v_ W_ => ∃ q : Nat, v_ = some (.ref q) ∧ W_ = [(a, .inr (3, [.float d, .float g, .int la])), (q, .inr (3, [.float d, .float g, .int la]))]) ([(a, .inr (3, [.float d, .float g, .int la]))]) sz) 1 3 (va_A ([(a, .inr (3, [.float d, .float g, .int la]))]) sz) := by
  refine Met.ofW (cc := cX3_copy) (maxL := 2) (ret := (some (.object "BlanketKeys$Style"))) (by decide) rfl ?_
  intro p e s m args below meth c s₁ B hml hv
  obtain ⟨rfl, ⟨hsz, hP, hD0, hX⟩, hE⟩ := hv
  have hx := B.exec
  have hb := B.bytes
  have hr := B.returns
  have hts := atoms_spec (ws := ws_ yX3_copy cX3_copy 2 (some (.object "BlanketKeys$Style"))) B.pre
  have hts : ∀ w ∈ lw_all, w.before _ s = true := fun w h => hts w (List.mem_cons_of_mem _ h)
  have hown : s.vm.findClass RX3 = some m.cls := findClass_of_methodNamed B.named
  have hlocks := B.notSynchronized
  subst hsz
  obtain ⟨A, hAe⟩ : ∃ A, A = va_A ([(a, .inr (3, [.float d, .float g, .int la]))]) s.heap.size := ⟨_, rfl⟩
  have hD : va_D A ([(a, .inr (3, [.float d, .float g, .int la]))]) := by rw [hAe]; exact hD0.self
  have hA : ∀ q : Nat, s.heap.size ≤ q → A q := fun q h => by rw [hAe]; exact Or.inr h
  have hl := lv_entry ([.ref a]) (n := 2) (Nat.le_of_ble_eq_true rfl)
  rw [lg_entry_eq]
  generalize (lg_sl ([.ref a]) ++ List.replicate (2 - (lg_sl ([.ref a])).length) Slot.unset).toArray = ls at hl ⊢
  replace hl : lv_has ls 2 [(0, .ref a)] := hl
  have hP0 : va_P G.1 cl0 ([(a, .inr (3, [.float d, .float g, .int la]))]) s.heap := hP
  refine ol_start (A := A) (fun H locs hH hS => ?_)
  rw [← hH] at hP
  clear hH
  refine va_new (D := G.1) (cl := cl0) (ci := 3) (fs := [.float 0, .float 0, .int 0]) (C := RX3) (T := TX3) (N := 3) hx hb hts in_X3 tyX3 tyX3_ok hown (hts _ q498) (hts _ q146) (hts _ q63) hE.1 hP hD hS hA rfl (fun j hj => by rcases (show j = 0 ∨ j = 1 ∨ j = 2 by omega) with rfl | rfl | rfl <;> rfl) (Nat.le_of_ble_eq_true rfl) (Nat.le_of_ble_eq_true rfl) dX3_copy_0 (fun qn1 H hP hD hS => ?_)
  replace hP : va_P G.1 cl0 ([(a, .inr (3, [.float d, .float g, .int la])), (qn1, .inr (3, [.float 0, .float 0, .int 0]))]) H := hP
  replace hD : va_D A ([(a, .inr (3, [.float d, .float g, .int la])), (qn1, .inr (3, [.float 0, .float 0, .int 0]))]) := hD
  refine lv_dup hx hb dX3_copy_3 rfl ?_
  refine lv_aload_n hx hb dX3_copy_4 rfl (lv_at hl 0 rfl) ?_
  refine va_get (D := G.1) (ci := 3) (v := .float d) (C := RX3) (T := TX3) (N := 3) hx hb hts in_X3 hown hE.1 hP 0 rfl rfl 0 (by decide) (hts _ q153) (fun _ h9 => h9) rfl dX3_copy_5 ?_
  refine lv_aload_n hx hb dX3_copy_8 rfl (lv_at hl 0 rfl) ?_
  refine va_get (D := G.1) (ci := 3) (v := .float g) (C := RX3) (T := TX3) (N := 3) hx hb hts in_X3 hown hE.1 hP 0 rfl rfl 1 (by decide) (hts _ q155) (fun _ h9 => h9) rfl dX3_copy_9 ?_
  refine ol_cJ (Wr := [(a, .inr (3, [.float d, .float g, .int la]))]) (va_runI (As := [.float d, .float g]) (rest := [.ref qn1]) ⟨hx, hb, hml, hown, hts⟩ (cm_styleInit l G qn1 d g H.size) (cwI 2 hts (lw_meth q151) rfl rfl rfl (hts _ q63) (hts _ q499) (hts _ q150) rfl (by decide +kernel) ⟨Nat.le_of_ble_eq_true rfl, Nat.le_of_ble_eq_true rfl⟩) (oPc.preS hE ⟨rfl, (hP.sub [1] rfl), oD_weak (hD.sub [1] (by decide) rfl) (fun _ _ => trivial), trivial⟩) rfl rfl hl.1 rfl (lv_room (Nat.le_of_ble_eq_true rfl)) dX3_copy_12 ⟨Nat.le_of_ble_eq_true rfl, Nat.le_of_ble_eq_true rfl⟩) hP hD hS hA [1] [0] rfl rfl (by decide) (by decide) (fun v_ W_ H locs hΦ hP hD hS => ?_)
  obtain ⟨rfl, rfl⟩ := hΦ
  replace hP : va_P G.1 cl0 ([(a, .inr (3, [.float d, .float g, .int la])), (qn1, .inr (3, [.float d, .float g, .int (-5)]))]) H := hP
  replace hD : va_D A ([(a, .inr (3, [.float d, .float g, .int la])), (qn1, .inr (3, [.float d, .float g, .int (-5)]))]) := hD
  refine lv_astore_n (lv' := [(1, .ref qn1), (0, .ref a)]) hx hb dX3_copy_15 rfl hl (by decide) rfl (fun ls hl => ?_)
  refine lv_aload_n hx hb dX3_copy_16 rfl (lv_at hl 0 rfl) ?_
  refine lv_aload_n hx hb dX3_copy_17 rfl (lv_at hl 1 rfl) ?_
  refine va_get (D := G.1) (ci := 3) (v := .int la) (C := RX3) (T := TX3) (N := 3) hx hb hts in_X3 hown hE.1 hP 0 rfl rfl 2 (by decide) (hts _ q157) (fun _ h9 => h9) rfl dX3_copy_18 ?_
  refine va_put (D := G.1) (ci := 3) (v := .int la) (ty := .int) (C := RX3) (T := TX3) (N := 3) hx hb hts in_X3 tyX3 tyX3_ok nmX3 hown hE.1 hP hD hS 1 rfl rfl 2 (by decide) (hts _ q157) (fun _ h9 => h9) rfl (by decide +kernel) rfl rfl (Nat.le_of_ble_eq_true rfl) dX3_copy_21 (fun H locs hP hD hS => ?_)
  replace hP : va_P G.1 cl0 ([(a, .inr (3, [.float d, .float g, .int la])), (qn1, .inr (3, [.float d, .float g, .int la]))]) H := hP
  replace hD : va_D A ([(a, .inr (3, [.float d, .float g, .int la])), (qn1, .inr (3, [.float d, .float g, .int la]))]) := hD
  refine lv_aload_n hx hb dX3_copy_24 rfl (lv_at hl 0 rfl) ?_
  subst hAe
  exact ol_aretE hx hb hr (Or.inl ⟨_, rfl⟩) hlocks ⟨_, rfl, rfl⟩ hP hD hS dX3_copy_25
set_option maxHeartbeats 4000000 in
set_option maxRecDepth 100000 in
theorem cr_gapTo (l : Launch) (G : oG) (a : Nat) (d g : UInt32) (la : Int32) (x : Int32)  : Met l yX3_gapTo (ws_ yX3_gapTo cX3_gapTo 2 (some .int)) ({ frames := 1, cells := 0, slots := 0, locals := 13 }) (oPc G [.ref a, .int x] (fun H => va_P G.1 cl0 ([(a, .inr (3, [.float d, .float g, .int la]))]) H)) (oR (some (.int (cGap x la)))) 0 0 (fun _ => False) := by
  refine Met.ofW (cc := cX3_gapTo) (maxL := 2) (ret := (some .int)) (by decide) rfl ?_
  intro p e s m args below meth c s₁ B hml hv
  obtain ⟨rfl, hP, hE⟩ := hv
  have hx := B.exec
  have hb := B.bytes
  have hr := B.returns
  have hts := atoms_spec (ws := ws_ yX3_gapTo cX3_gapTo 2 (some .int)) B.pre
  have hts : ∀ w ∈ lw_all, w.before _ s = true := fun w h => hts w (List.mem_cons_of_mem _ h)
  have hown : s.vm.findClass RX3 = some m.cls := findClass_of_methodNamed B.named
  have hlocks := B.notSynchronized
  have hl := lv_entry ([.ref a, .int x]) (n := 2) (Nat.le_of_ble_eq_true rfl)
  rw [lg_entry_eq]
  generalize (lg_sl ([.ref a, .int x]) ++ List.replicate (2 - (lg_sl ([.ref a, .int x])).length) Slot.unset).toArray = ls at hl ⊢
  replace hl : lv_has ls 2 [(0, .ref a), (1, .int x)] := hl
  refine lv_iload_n hx hb dX3_gapTo_0 rfl (lv_at hl 1 rfl) ?_
  refine lv_aload_n hx hb dX3_gapTo_1 rfl (lv_at hl 0 rfl) ?_
  refine va_get (D := G.1) (ci := 3) (v := .int la) (C := RX3) (T := TX3) (N := 3) hx hb hts in_X3 hown hE.1 hP 0 rfl rfl 2 (by decide) (hts _ q157) (fun _ h9 => h9) rfl dX3_gapTo_2 ?_
  refine lv_isub hx hb dX3_gapTo_5 ?_
  refine va_mabs hx hb (by rw [hml]; exact hl.1.symm) hown (hts _ q624) (hts _ q625) (hts _ q65) (hts _ q626) (Nat.le_of_ble_eq_true rfl) (Nat.le_of_ble_eq_true rfl) (Nat.le_of_ble_eq_true rfl) (Nat.le_of_ble_eq_true rfl) dX3_gapTo_6 ?_
  exact ol_iretR hx hb hr hlocks rfl rfl dX3_gapTo_9
set_option maxHeartbeats 4000000 in
set_option maxRecDepth 100000 in
theorem cr_distance (l : Launch) (G : oG) (a : Nat) (d g : UInt32) (la : Int32) (x t : Int32) (hd : fOK d) (hg : fOK g) : Met l yX3_distance (ws_ yX3_distance cX3_distance 4 (some .float)) ({ frames := 2, cells := 0, slots := 0, locals := 34 }) (oPc G [.ref a, .int x, .int t] (fun H => va_P G.1 cl0 ([(a, .inr (3, [.float d, .float g, .int la]))]) H)) (oR (some (.float (cDist d g la x t)))) 0 0 (fun _ => False) := by
  refine Met.ofW (cc := cX3_distance) (maxL := 4) (ret := (some .float)) (by decide) rfl ?_
  intro p e s m args below meth c s₁ B hml hv
  obtain ⟨rfl, hP, hE⟩ := hv
  have hx := B.exec
  have hb := B.bytes
  have hr := B.returns
  have hts := atoms_spec (ws := ws_ yX3_distance cX3_distance 4 (some .float)) B.pre
  have hts : ∀ w ∈ lw_all, w.before _ s = true := fun w h => hts w (List.mem_cons_of_mem _ h)
  have hown : s.vm.findClass RX3 = some m.cls := findClass_of_methodNamed B.named
  have hlocks := B.notSynchronized
  have hl := lv_entry ([.ref a, .int x, .int t]) (n := 4) (Nat.le_of_ble_eq_true rfl)
  rw [lg_entry_eq]
  generalize (lg_sl ([.ref a, .int x, .int t]) ++ List.replicate (4 - (lg_sl ([.ref a, .int x, .int t])).length) Slot.unset).toArray = ls at hl ⊢
  replace hl : lv_has ls 4 [(0, .ref a), (1, .int x), (2, .int t)] := hl
  refine lv_iload_n hx hb dX3_distance_0 rfl (lv_at hl 2 rfl) ?_
  refine lv_i2f hx hb dX3_distance_1 ?_
  refine lv_aload_n hx hb dX3_distance_2 rfl (lv_at hl 0 rfl) ?_
  refine va_get (D := G.1) (ci := 3) (v := .float d) (C := RX3) (T := TX3) (N := 3) hx hb hts in_X3 hown hE.1 hP 0 rfl rfl 0 (by decide) (hts _ q153) (fun _ h9 => h9) rfl dX3_distance_3 ?_
  refine lv_fsub hx hb dX3_distance_6 (fk_sub t hd) ?_
  refine ol_cR (st1 := [.float (fsz (FP.fsub (FP.i2f t) d))]) (va_runSN (As := [.float (FP.fsub (FP.i2f t) d)]) (rest := []) ⟨hx, hb, hml, hown, hts⟩ (cr_size l G (FP.fsub (FP.i2f t) d) ) ⟨va_cnB 1 hts (lw_meth q619) rfl rfl rfl (hE.2.1 _ q617 rfl) (hts _ q57) (by decide +kernel) ⟨Nat.le_of_ble_eq_true rfl, Nat.le_of_ble_eq_true rfl⟩, hts _ q618, trivial⟩ (oPc.preS hE trivial) rfl rfl hl.1 rfl (lv_room (Nat.le_of_ble_eq_true rfl)) dX3_distance_7 ⟨Nat.le_of_ble_eq_true rfl, Nat.le_of_ble_eq_true rfl⟩) rfl ?_
  refine lv_aload_n hx hb dX3_distance_10 rfl (lv_at hl 0 rfl) ?_
  refine va_get (D := G.1) (ci := 3) (v := .float d) (C := RX3) (T := TX3) (N := 3) hx hb hts in_X3 hown hE.1 hP 0 rfl rfl 0 (by decide) (hts _ q153) (fun _ h9 => h9) rfl dX3_distance_11 ?_
  refine lv_fdiv hx hb dX3_distance_14 (fk_div t hd) ?_
  refine lv_fstore_n (lv' := [(3, .float (FP.fdiv (fsz (FP.fsub (FP.i2f t) d)) d)), (0, .ref a), (1, .int x), (2, .int t)]) hx hb dX3_distance_15 rfl hl (by decide) rfl (fun ls hl => ?_)
  refine lv_aload_n hx hb dX3_distance_16 rfl (lv_at hl 1 rfl) ?_
  refine va_get (D := G.1) (ci := 3) (v := .int la) (C := RX3) (T := TX3) (N := 3) hx hb hts in_X3 hown hE.1 hP 0 rfl rfl 2 (by decide) (hts _ q157) (fun _ h9 => h9) rfl dX3_distance_17 ?_
  refine lv_bipush (v := (-5)) hx hb dX3_distance_20 (by decide) ?_
  refine lv_icmp_ne (tgt := 29) hx hb dX3_distance_22 (by decide) (fun c_22 => ?_) (fun c_22 => ?_)
  · refine lv_fload_n hx hb dX3_distance_29 rfl (lv_at hl 0 rfl) ?_
    refine lv_aload_n hx hb dX3_distance_30 rfl (lv_at hl 1 rfl) ?_
    refine lv_iload_n hx hb dX3_distance_31 rfl (lv_at hl 2 rfl) ?_
    refine ol_cR (st1 := [.int (cGap x la), .float (FP.fdiv (fsz (FP.fsub (FP.i2f t) d)) d)]) (va_runV (As := [.int x]) (rest := [.float (FP.fdiv (fsz (FP.fsub (FP.i2f t) d)) d)]) ⟨hx, hb, hml, hown, hts⟩ (cr_gapTo l G a d g la x) (cwV 1 hts (lw_V q620 q622 qs9 q63 q623) rfl rfl rfl (by decide +kernel) ⟨Nat.le_of_ble_eq_true rfl, Nat.le_of_ble_eq_true rfl⟩) (oPc.preV hE (hE.recv (ci := 3) (hP 0 _ rfl) rfl) (hP.sub [0] rfl)) rfl rfl hl.1 rfl (lv_room (Nat.le_of_ble_eq_true rfl)) dX3_distance_32 ⟨Nat.le_of_ble_eq_true rfl, Nat.le_of_ble_eq_true rfl⟩) rfl ?_
    refine lv_i2f hx hb dX3_distance_35 ?_
    refine lv_aload_n hx hb dX3_distance_36 rfl (lv_at hl 1 rfl) ?_
    refine va_get (D := G.1) (ci := 3) (v := .float g) (C := RX3) (T := TX3) (N := 3) hx hb hts in_X3 hown hE.1 hP 0 rfl rfl 1 (by decide) (hts _ q155) (fun _ h9 => h9) rfl dX3_distance_37 ?_
    refine lv_fsub hx hb dX3_distance_40 (fk_sub (cGap x la) hg) ?_
    refine ol_cR (st1 := [.float (fsz (FP.fsub (FP.i2f (cGap x la)) g)), .float (FP.fdiv (fsz (FP.fsub (FP.i2f t) d)) d)]) (va_runSN (As := [.float (FP.fsub (FP.i2f (cGap x la)) g)]) (rest := [.float (FP.fdiv (fsz (FP.fsub (FP.i2f t) d)) d)]) ⟨hx, hb, hml, hown, hts⟩ (cr_size l G (FP.fsub (FP.i2f (cGap x la)) g) ) ⟨va_cnB 1 hts (lw_meth q619) rfl rfl rfl (hE.2.1 _ q617 rfl) (hts _ q57) (by decide +kernel) ⟨Nat.le_of_ble_eq_true rfl, Nat.le_of_ble_eq_true rfl⟩, hts _ q618, trivial⟩ (oPc.preS hE trivial) rfl rfl hl.1 rfl (lv_room (Nat.le_of_ble_eq_true rfl)) dX3_distance_41 ⟨Nat.le_of_ble_eq_true rfl, Nat.le_of_ble_eq_true rfl⟩) rfl ?_
    refine lv_aload_n hx hb dX3_distance_44 rfl (lv_at hl 1 rfl) ?_
    refine va_get (D := G.1) (ci := 3) (v := .float g) (C := RX3) (T := TX3) (N := 3) hx hb hts in_X3 hown hE.1 hP 0 rfl rfl 1 (by decide) (hts _ q155) (fun _ h9 => h9) rfl dX3_distance_45 ?_
    refine lv_fdiv hx hb dX3_distance_48 (fk_div (cGap x la) hg) ?_
    refine lv_ldcf hx hb hown (hts _ q627) dX3_distance_49 ?_
    refine lv_fmul hx hb dX3_distance_51 (fk_half (cGap x la) hg) ?_
    refine lv_fadd hx hb dX3_distance_52 (fk_add t (cGap x la) hd hg) ?_
    exact ol_fretR hx hb hr hlocks rfl (by unfold cDist; rw [if_neg c_22]; rfl) dX3_distance_53
  · refine lv_fload_n hx hb dX3_distance_25 rfl (lv_at hl 0 rfl) ?_
    refine lv_goto (tgt := 53) hx hb dX3_distance_26 (by decide) ?_
    exact ol_fretR hx hb hr hlocks rfl (by unfold cDist; rw [if_pos c_22]; rfl) dX3_distance_53
set_option maxHeartbeats 4000000 in
set_option maxRecDepth 100000 in
theorem cr_atLeast (l : Launch) (G : oG) (v : UInt32)  : Met l yX3_atLeast (ws_ yX3_atLeast cX3_atLeast 1 (some .float)) ({ frames := 0, cells := 0, slots := 0, locals := 0 }) (oPc G [.float v] (fun _ => True)) (oR (some (.float (fAl v)))) 0 0 (fun _ => False) := by
  refine Met.ofW (cc := cX3_atLeast) (maxL := 1) (ret := (some .float)) (by decide) rfl ?_
  intro p e s m args below meth c s₁ B hml hv
  obtain ⟨rfl, hP, hE⟩ := hv
  have hx := B.exec
  have hb := B.bytes
  have hr := B.returns
  have hts := atoms_spec (ws := ws_ yX3_atLeast cX3_atLeast 1 (some .float)) B.pre
  have hts : ∀ w ∈ lw_all, w.before _ s = true := fun w h => hts w (List.mem_cons_of_mem _ h)
  have hown : s.vm.findClass RX3 = some m.cls := findClass_of_methodNamed B.named
  have hlocks := B.notSynchronized
  have hl := lv_entry ([.float v]) (n := 1) (Nat.le_of_ble_eq_true rfl)
  rw [lg_entry_eq]
  generalize (lg_sl ([.float v]) ++ List.replicate (1 - (lg_sl ([.float v])).length) Slot.unset).toArray = ls at hl ⊢
  replace hl : lv_has ls 1 [(0, .float v)] := hl
  refine lv_fload_n hx hb dX3_atLeast_0 rfl (lv_at hl 0 rfl) ?_
  refine lv_ldcf hx hb hown (hts _ q627) dX3_atLeast_1 ?_
  refine lv_fcmp hx hb dX3_atLeast_3 ?_
  refine lv_if_ge (tgt := 12) hx hb dX3_atLeast_4 (by decide) (fun c_4 => ?_) (fun c_4 => ?_)
  · refine lv_fload_n hx hb dX3_atLeast_12 rfl (lv_at hl 0 rfl) ?_
    exact ol_fretR hx hb hr hlocks rfl (by simp [fAl, flt, zB, c_4, Int32.not_lt.mpr c_4]) dX3_atLeast_13
  · refine lv_ldcf hx hb hown (hts _ q627) dX3_atLeast_7 ?_
    refine lv_goto (tgt := 13) hx hb dX3_atLeast_9 (by decide) ?_
    exact ol_fretR hx hb hr hlocks rfl (by simp [fAl, flt, zB, c_4, Int32.not_le.mp c_4]) dX3_atLeast_13
set_option maxHeartbeats 4000000 in
set_option maxRecDepth 100000 in
theorem cm_learn (l : Launch) (G : oG) (a : Nat) (d g : UInt32) (la : Int32) (x t : Int32) (rate : UInt32) (hd : fOK d) (hg : fOK g) (hr9 : fR rate) (sz : Nat) : Met l yX3_learn (ws_ yX3_learn cX3_learn 4 none) ({ frames := 2, cells := 0, slots := 0, locals := 34 }) (oPc G [.ref a, .int x, .int t, .float rate] (oPE G ([(a, .inr (3, [.float d, .float g, .int la]))]) sz (fun _ => True))) (oE G (fun v_ W_ => v_ = none ∧ W_ = [(a, .inr (3, [.float (lrnF d rate t), .float (if la = -5 then g else lrnF g rate (cGap x la)), .int x]))]) ([(a, .inr (3, [.float d, .float g, .int la]))]) sz) 0 0 (va_A ([(a, .inr (3, [.float d, .float g, .int la]))]) sz) := by
  refine Met.ofW (cc := cX3_learn) (maxL := 4) (ret := none) (by decide) rfl ?_
  intro p e s m args below meth c s₁ B hml hv
  obtain ⟨rfl, ⟨hsz, hP, hD0, hX⟩, hE⟩ := hv
  have hx := B.exec
  have hb := B.bytes
  have hr := B.returns
  have hts := atoms_spec (ws := ws_ yX3_learn cX3_learn 4 none) B.pre
  have hts : ∀ w ∈ lw_all, w.before _ s = true := fun w h => hts w (List.mem_cons_of_mem _ h)
  have hown : s.vm.findClass RX3 = some m.cls := findClass_of_methodNamed B.named
  have hlocks := B.notSynchronized
  subst hsz
  obtain ⟨A, hAe⟩ : ∃ A, A = va_A ([(a, .inr (3, [.float d, .float g, .int la]))]) s.heap.size := ⟨_, rfl⟩
  have hD : va_D A ([(a, .inr (3, [.float d, .float g, .int la]))]) := by rw [hAe]; exact hD0.self
  have hA : ∀ q : Nat, s.heap.size ≤ q → A q := fun q h => by rw [hAe]; exact Or.inr h
  have hl := lv_entry ([.ref a, .int x, .int t, .float rate]) (n := 4) (Nat.le_of_ble_eq_true rfl)
  rw [lg_entry_eq]
  generalize (lg_sl ([.ref a, .int x, .int t, .float rate]) ++ List.replicate (4 - (lg_sl ([.ref a, .int x, .int t, .float rate])).length) Slot.unset).toArray = ls at hl ⊢
  replace hl : lv_has ls 4 [(0, .ref a), (1, .int x), (2, .int t), (3, .float rate)] := hl
  have hP0 : va_P G.1 cl0 ([(a, .inr (3, [.float d, .float g, .int la]))]) s.heap := hP
  refine ol_start (A := A) (fun H locs hH hS => ?_)
  rw [← hH] at hP
  clear hH
  refine lv_aload_n hx hb dX3_learn_0 rfl (lv_at hl 0 rfl) ?_
  refine lv_aload_n hx hb dX3_learn_1 rfl (lv_at hl 0 rfl) ?_
  refine va_get (D := G.1) (ci := 3) (v := .float d) (C := RX3) (T := TX3) (N := 3) hx hb hts in_X3 hown hE.1 hP 0 rfl rfl 0 (by decide) (hts _ q153) (fun _ h9 => h9) rfl dX3_learn_2 ?_
  refine lv_iload_n hx hb dX3_learn_5 rfl (lv_at hl 2 rfl) ?_
  refine lv_i2f hx hb dX3_learn_6 ?_
  refine lv_aload_n hx hb dX3_learn_7 rfl (lv_at hl 0 rfl) ?_
  refine va_get (D := G.1) (ci := 3) (v := .float d) (C := RX3) (T := TX3) (N := 3) hx hb hts in_X3 hown hE.1 hP 0 rfl rfl 0 (by decide) (hts _ q153) (fun _ h9 => h9) rfl dX3_learn_8 ?_
  refine lv_fsub hx hb dX3_learn_11 (fk_sub t hd) ?_
  refine lv_fload_n hx hb dX3_learn_12 rfl (lv_at hl 3 rfl) ?_
  refine lv_fmul hx hb dX3_learn_13 (fk_lm t hd hr9) ?_
  refine lv_fadd hx hb dX3_learn_14 (fk_la t hd hr9) ?_
  refine ol_cR (st1 := [.float (fAl (FP.fadd d (FP.fmul (FP.fsub (FP.i2f t) d) rate))), .ref a]) (va_runS (As := [.float (FP.fadd d (FP.fmul (FP.fsub (FP.i2f t) d) rate))]) (rest := [.ref a]) ⟨hx, hb, hml, hown, hts⟩ (cr_atLeast l G (FP.fadd d (FP.fmul (FP.fsub (FP.i2f t) d) rate)) ) (va_cwS 1 hts (lw_S q677 q678 q63 q679) rfl rfl rfl (by decide +kernel) ⟨Nat.le_of_ble_eq_true rfl, Nat.le_of_ble_eq_true rfl⟩) (oPc.preS hE trivial) rfl rfl hl.1 rfl (lv_room (Nat.le_of_ble_eq_true rfl)) dX3_learn_15 ⟨Nat.le_of_ble_eq_true rfl, Nat.le_of_ble_eq_true rfl⟩) rfl ?_
  refine va_put (D := G.1) (ci := 3) (v := .float (fAl (FP.fadd d (FP.fmul (FP.fsub (FP.i2f t) d) rate)))) (ty := .float) (C := RX3) (T := TX3) (N := 3) hx hb hts in_X3 tyX3 tyX3_ok nmX3 hown hE.1 hP hD hS 0 rfl rfl 0 (by decide) (hts _ q153) (fun _ h9 => h9) rfl (by decide +kernel) rfl rfl (Nat.le_of_ble_eq_true rfl) dX3_learn_18 (fun H locs hP hD hS => ?_)
  replace hP : va_P G.1 cl0 ([(a, .inr (3, [.float (fAl (FP.fadd d (FP.fmul (FP.fsub (FP.i2f t) d) rate))), .float g, .int la]))]) H := hP
  replace hD : va_D A ([(a, .inr (3, [.float (fAl (FP.fadd d (FP.fmul (FP.fsub (FP.i2f t) d) rate))), .float g, .int la]))]) := hD
  refine lv_aload_n hx hb dX3_learn_21 rfl (lv_at hl 0 rfl) ?_
  refine va_get (D := G.1) (ci := 3) (v := .int la) (C := RX3) (T := TX3) (N := 3) hx hb hts in_X3 hown hE.1 hP 0 rfl rfl 2 (by decide) (hts _ q157) (fun _ h9 => h9) rfl dX3_learn_22 ?_
  refine lv_bipush (v := (-5)) hx hb dX3_learn_25 (by decide) ?_
  refine lv_icmp_eq (tgt := 55) hx hb dX3_learn_27 (by decide) (fun c_27 => ?_) (fun c_27 => ?_)
  · refine lv_aload_n hx hb dX3_learn_55 rfl (lv_at hl 0 rfl) ?_
    refine lv_iload_n hx hb dX3_learn_56 rfl (lv_at hl 1 rfl) ?_
    refine va_put (D := G.1) (ci := 3) (v := .int x) (ty := .int) (C := RX3) (T := TX3) (N := 3) hx hb hts in_X3 tyX3 tyX3_ok nmX3 hown hE.1 hP hD hS 0 rfl rfl 2 (by decide) (hts _ q157) (fun _ h9 => h9) rfl (by decide +kernel) rfl rfl (Nat.le_of_ble_eq_true rfl) dX3_learn_57 (fun H locs hP hD hS => ?_)
    replace hP : va_P G.1 cl0 ([(a, .inr (3, [.float (fAl (FP.fadd d (FP.fmul (FP.fsub (FP.i2f t) d) rate))), .float g, .int x]))]) H := hP
    replace hD : va_D A ([(a, .inr (3, [.float (fAl (FP.fadd d (FP.fmul (FP.fsub (FP.i2f t) d) rate))), .float g, .int x]))]) := hD
    subst hAe
    exact ol_vretE hx hb hr hlocks ⟨rfl, by rw [if_pos c_27]; rfl⟩ hP hD hS dX3_learn_60
  · refine lv_aload_n hx hb dX3_learn_30 rfl (lv_at hl 0 rfl) ?_
    refine lv_aload_n hx hb dX3_learn_31 rfl (lv_at hl 0 rfl) ?_
    refine va_get (D := G.1) (ci := 3) (v := .float g) (C := RX3) (T := TX3) (N := 3) hx hb hts in_X3 hown hE.1 hP 0 rfl rfl 1 (by decide) (hts _ q155) (fun _ h9 => h9) rfl dX3_learn_32 ?_
    refine lv_aload_n hx hb dX3_learn_35 rfl (lv_at hl 0 rfl) ?_
    refine lv_iload_n hx hb dX3_learn_36 rfl (lv_at hl 1 rfl) ?_
    refine ol_cR (st1 := [.int (cGap x la), .float g, .ref a]) (va_runV (As := [.int x]) (rest := [.float g, .ref a]) ⟨hx, hb, hml, hown, hts⟩ (cr_gapTo l G a (fAl (FP.fadd d (FP.fmul (FP.fsub (FP.i2f t) d) rate))) g la x) (cwV 1 hts (lw_V q620 q622 qs9 q63 q623) rfl rfl rfl (by decide +kernel) ⟨Nat.le_of_ble_eq_true rfl, Nat.le_of_ble_eq_true rfl⟩) (oPc.preV hE (hE.recv (ci := 3) (hP 0 _ rfl) rfl) (hP.sub [0] rfl)) rfl rfl hl.1 rfl (lv_room (Nat.le_of_ble_eq_true rfl)) dX3_learn_37 ⟨Nat.le_of_ble_eq_true rfl, Nat.le_of_ble_eq_true rfl⟩) rfl ?_
    refine lv_i2f hx hb dX3_learn_40 ?_
    refine lv_aload_n hx hb dX3_learn_41 rfl (lv_at hl 0 rfl) ?_
    refine va_get (D := G.1) (ci := 3) (v := .float g) (C := RX3) (T := TX3) (N := 3) hx hb hts in_X3 hown hE.1 hP 0 rfl rfl 1 (by decide) (hts _ q155) (fun _ h9 => h9) rfl dX3_learn_42 ?_
    refine lv_fsub hx hb dX3_learn_45 (fk_sub (cGap x la) hg) ?_
    refine lv_fload_n hx hb dX3_learn_46 rfl (lv_at hl 3 rfl) ?_
    refine lv_fmul hx hb dX3_learn_47 (fk_lm (cGap x la) hg hr9) ?_
    refine lv_fadd hx hb dX3_learn_48 (fk_la (cGap x la) hg hr9) ?_
    refine ol_cR (st1 := [.float (fAl (FP.fadd g (FP.fmul (FP.fsub (FP.i2f (cGap x la)) g) rate))), .ref a]) (va_runS (As := [.float (FP.fadd g (FP.fmul (FP.fsub (FP.i2f (cGap x la)) g) rate))]) (rest := [.ref a]) ⟨hx, hb, hml, hown, hts⟩ (cr_atLeast l G (FP.fadd g (FP.fmul (FP.fsub (FP.i2f (cGap x la)) g) rate)) ) (va_cwS 1 hts (lw_S q677 q678 q63 q679) rfl rfl rfl (by decide +kernel) ⟨Nat.le_of_ble_eq_true rfl, Nat.le_of_ble_eq_true rfl⟩) (oPc.preS hE trivial) rfl rfl hl.1 rfl (lv_room (Nat.le_of_ble_eq_true rfl)) dX3_learn_49 ⟨Nat.le_of_ble_eq_true rfl, Nat.le_of_ble_eq_true rfl⟩) rfl ?_
    refine va_put (D := G.1) (ci := 3) (v := .float (fAl (FP.fadd g (FP.fmul (FP.fsub (FP.i2f (cGap x la)) g) rate)))) (ty := .float) (C := RX3) (T := TX3) (N := 3) hx hb hts in_X3 tyX3 tyX3_ok nmX3 hown hE.1 hP hD hS 0 rfl rfl 1 (by decide) (hts _ q155) (fun _ h9 => h9) rfl (by decide +kernel) rfl rfl (Nat.le_of_ble_eq_true rfl) dX3_learn_52 (fun H locs hP hD hS => ?_)
    replace hP : va_P G.1 cl0 ([(a, .inr (3, [.float (fAl (FP.fadd d (FP.fmul (FP.fsub (FP.i2f t) d) rate))), .float (fAl (FP.fadd g (FP.fmul (FP.fsub (FP.i2f (cGap x la)) g) rate))), .int la]))]) H := hP
    replace hD : va_D A ([(a, .inr (3, [.float (fAl (FP.fadd d (FP.fmul (FP.fsub (FP.i2f t) d) rate))), .float (fAl (FP.fadd g (FP.fmul (FP.fsub (FP.i2f (cGap x la)) g) rate))), .int la]))]) := hD
    refine lv_aload_n hx hb dX3_learn_55 rfl (lv_at hl 0 rfl) ?_
    refine lv_iload_n hx hb dX3_learn_56 rfl (lv_at hl 1 rfl) ?_
    refine va_put (D := G.1) (ci := 3) (v := .int x) (ty := .int) (C := RX3) (T := TX3) (N := 3) hx hb hts in_X3 tyX3 tyX3_ok nmX3 hown hE.1 hP hD hS 0 rfl rfl 2 (by decide) (hts _ q157) (fun _ h9 => h9) rfl (by decide +kernel) rfl rfl (Nat.le_of_ble_eq_true rfl) dX3_learn_57 (fun H locs hP hD hS => ?_)
    replace hP : va_P G.1 cl0 ([(a, .inr (3, [.float (fAl (FP.fadd d (FP.fmul (FP.fsub (FP.i2f t) d) rate))), .float (fAl (FP.fadd g (FP.fmul (FP.fsub (FP.i2f (cGap x la)) g) rate))), .int x]))]) H := hP
    replace hD : va_D A ([(a, .inr (3, [.float (fAl (FP.fadd d (FP.fmul (FP.fsub (FP.i2f t) d) rate))), .float (fAl (FP.fadd g (FP.fmul (FP.fsub (FP.i2f (cGap x la)) g) rate))), .int x]))]) := hD
    subst hAe
    exact ol_vretE hx hb hr hlocks ⟨rfl, by rw [if_neg c_27]; rfl⟩ hP hD hS dX3_learn_60
