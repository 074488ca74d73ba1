/-! THE COMPONENT: the latest things -/
def alT (G : oG) (b cap : Nat) (xs : Nat → Option Nat) : va_W := if cap = 0 then [] else [(b, .inl (G.2 5, cap, .inr (.inr (.inr (.inr xs)))))]
theorem alW_eq {G : oG} {a b cap n : Nat} {md : Int32} {xs : Nat → Option Nat} : alW G a b cap n md xs = (a, .inr (9, [.int md, .ref b, .int (nI n)])) :: alT G b cap xs := rfl
theorem alT_1 {G : oG} {b cap : Nat} (xs : Nat → Option Nat) (h : 0 < cap) : alT G b cap xs = [(b, .inl (G.2 5, cap, .inr (.inr (.inr (.inr xs)))))] := if_neg (by omega)
theorem alT_mem {G : oG} {b cap : Nat} {xs : Nat → Option Nat} {x : Nat × va_E} (h : x ∈ alT G b cap xs) : ∃ z, x.2 = .inl (G.2 5, z) := by
  unfold alT at h
  split at h
  · cases h
  · rw [List.mem_singleton] at h; rw [h]; exact ⟨_, rfl⟩
set_option maxHeartbeats 4000000 in
set_option maxRecDepth 100000 in
theorem cm_ltInit (l : Launch) (G : oG) (Z : oZ) (a mo : Nat)  (sz : Nat) : Met l yX2_init (ws_ yX2_init cX2_init 2 none) ({ frames := 4, cells := 1, slots := 3, locals := 72 }) (oPc1 G Z [.ref a, .int (nI mo)] (oPE1 G Z ([(a, .inr (2, [.int 0, .null]))]) sz (fun _ => True))) (oE G (fun v_ W_ => v_ = none ∧ ∃ q : Nat, W_ = (a, .inr (2, [.int (nI mo), .ref q])) :: alW G q (Z.2.2 0) 0 0 0 (fun _ => none)) ([(a, .inr (2, [.int 0, .null]))]) sz) 1 3 (va_A ([(a, .inr (2, [.int 0, .null]))]) sz) := by
  refine Met.ofW (cc := cX2_init) (maxL := 2) (ret := none) (by decide) rfl ?_
  intro p e s m args below meth c s₁ B hml hv
  obtain ⟨rfl, ⟨hsz, hP, hDb, hB, hX⟩, hE⟩ := hv
  have hD0 : va_D (fun _ => True) ([(a, .inr (2, [.int 0, .null]))]) := oD_weak hDb (fun _ _ => trivial)
  have hx := B.exec
  have hb := B.bytes
  have hr := B.returns
  have hts := atoms_spec (ws := ws_ yX2_init cX2_init 2 none) B.pre
  have hts : ∀ w ∈ lw_all, w.before _ s = true := fun w h => hts w (List.mem_cons_of_mem _ h)
  have hown : s.vm.findClass RX2 = some m.cls := findClass_of_methodNamed B.named
  have hlocks := B.notSynchronized
  have hin : meth.name = "<init>" := (name_of_methodNamed B.named B.method).1
  subst hsz
  obtain ⟨A, hAe⟩ : ∃ A, A = va_A ([(a, .inr (2, [.int 0, .null]))]) s.heap.size := ⟨_, rfl⟩
  have hD : va_D A ([(a, .inr (2, [.int 0, .null]))]) := by rw [hAe]; exact hD0.self
  have hA : ∀ q : Nat, s.heap.size ≤ q → A q := fun q h => by rw [hAe]; exact Or.inr h
  have hAZ : ∀ q : Nat, A q → Z.1 ≤ q := fun q h => oA_base hDb hB q (by rw [hAe] at h; exact h)
  have hl := lv_entry ([.ref a, .int (nI mo)]) (n := 2) (Nat.le_of_ble_eq_true rfl)
  rw [lg_entry_eq]
  generalize (lg_sl ([.ref a, .int (nI mo)]) ++ List.replicate (2 - (lg_sl ([.ref a, .int (nI mo)])).length) Slot.unset).toArray = ls at hl ⊢
  replace hl : lv_has ls 2 [(0, .ref a), (1, .int (nI mo))] := hl
  have hP0 : va_P G.1 cl0 ([(a, .inr (2, [.int 0, .null]))]) s.heap := hP
  refine ol_start (A := A) (fun H locs hH hS => ?_)
  rw [← hH] at hP
  clear hH
  refine lv_aload_n hx hb dX2_init_0 rfl (lv_at hl 0 rfl) ?_
  refine W.objInit hx hb hown (hts _ q133) (hts _ q94) (hts _ q95) rfl (by rw [hml]; exact hl.1) rfl dX2_init_1 (Nat.le_of_ble_eq_true rfl) (Nat.le_of_ble_eq_true rfl) ?_
  refine W.eq (g2 := F0 m 4 ls []) rfl ?_
  refine lv_aload_n hx hb dX2_init_4 rfl (lv_at hl 0 rfl) ?_
  refine va_new (D := G.1) (cl := cl0) (ci := 9) (fs := [.int 0, .null, .int 0]) (C := RJ2) (T := TJ2) (N := 3) hx hb hts in_J2 tyJ2 tyJ2_ok hown (hts _ q134) (hts _ q103) (hts _ q61) hE.1.1 hP hD hS hA rfl (fun j hj => by rcases (show j = 0 ∨ j = 1 ∨ j = 2 by omega) with rfl | rfl | rfl <;> rfl) (Nat.le_of_ble_eq_true rfl) (Nat.le_of_ble_eq_true rfl) dX2_init_5 (fun qn1 H hP hD hS => ?_)
  replace hP : va_P G.1 cl0 ([(a, .inr (2, [.int 0, .null])), (qn1, .inr (9, [.int 0, .null, .int 0]))]) H := hP
  replace hD : va_D A ([(a, .inr (2, [.int 0, .null])), (qn1, .inr (9, [.int 0, .null, .int 0]))]) := hD
  refine lv_dup hx hb dX2_init_8 rfl ?_
  refine ol_cJ (Wr := [(a, .inr (2, [.int 0, .null]))]) (va_runI (As := []) (rest := [.ref qn1, .ref a]) ⟨hx, hb, hml, hown, hts⟩ (jm_alInit l G Z qn1 H.size) (cwI 0 hts (lw_meth q106) rfl rfl rfl (hts _ q61) (hts _ q135) (hts _ q105) rfl (by decide +kernel) ⟨Nat.le_of_ble_eq_true rfl, Nat.le_of_ble_eq_true rfl⟩) (oPc1.preS hE ⟨rfl, (hP.sub [1] rfl), oD_weak (hD.sub [1] (by decide) rfl) hAZ, hB.keep hS hAZ, trivial⟩) rfl rfl hl.1 rfl (lv_room (Nat.le_of_ble_eq_true rfl)) dX2_init_9 ⟨Nat.le_of_ble_eq_true rfl, Nat.le_of_ble_eq_true rfl⟩) hP hD hS hA [1] [0] rfl rfl (by decide) (by decide) (fun v_ W_ H locs hΦ hP hD hS => ?_)
  obtain ⟨rfl, rfl⟩ := hΦ
  replace hP : va_P G.1 cl0 ([(a, .inr (2, [.int 0, .null])), (qn1, .inr (9, [.int 0, .ref (Z.2.2 0), .int (nI 0)]))]) H := hP
  replace hD : va_D A ([(a, .inr (2, [.int 0, .null])), (qn1, .inr (9, [.int 0, .ref (Z.2.2 0), .int (nI 0)]))]) := hD
  refine va_putF (D := G.1) (ci := 2) (v := .ref qn1) (ty := .object "java/util/List") (C := RX2) (T := TX2) (N := 2) hx hb hts in_X2 tyX2 tyX2_ok nmX2 hown hE.1.1 hP hD hS 0 rfl rfl 1 (by decide) (hts _ q137) (fun _ h9 => h9) rfl hin rfl (by decide +kernel) rfl rfl (Nat.le_of_ble_eq_true rfl) dX2_init_12 (fun H locs hP hD hS => ?_)
  replace hP : va_P G.1 cl0 ([(a, .inr (2, [.int 0, .ref qn1])), (qn1, .inr (9, [.int 0, .ref (Z.2.2 0), .int (nI 0)]))]) H := hP
  replace hD : va_D A ([(a, .inr (2, [.int 0, .ref qn1])), (qn1, .inr (9, [.int 0, .ref (Z.2.2 0), .int (nI 0)]))]) := hD
  refine lv_aload_n hx hb dX2_init_15 rfl (lv_at hl 0 rfl) ?_
  refine lv_iload_n hx hb dX2_init_16 rfl (lv_at hl 1 rfl) ?_
  refine va_putF (D := G.1) (ci := 2) (v := .int (nI mo)) (ty := .int) (C := RX2) (T := TX2) (N := 2) hx hb hts in_X2 tyX2 tyX2_ok nmX2 hown hE.1.1 hP hD hS 0 rfl rfl 0 (by decide) (hts _ q136) (fun _ h9 => h9) rfl hin rfl (by decide +kernel) rfl rfl (Nat.le_of_ble_eq_true rfl) dX2_init_17 (fun H locs hP hD hS => ?_)
  replace hP : va_P G.1 cl0 ([(a, .inr (2, [.int (nI mo), .ref qn1])), (qn1, .inr (9, [.int 0, .ref (Z.2.2 0), .int (nI 0)]))]) H := hP
  replace hD : va_D A ([(a, .inr (2, [.int (nI mo), .ref qn1])), (qn1, .inr (9, [.int 0, .ref (Z.2.2 0), .int (nI 0)]))]) := hD
  subst hAe
  exact ol_vretE hx hb hr hlocks ⟨rfl, _, rfl⟩ hP hD hS dX2_init_20
theorem keepL {G : oG} {s : State} {H : Heap} {a b ar ar' cap cap' : Nat} {o1 o2 o1' o2' : Nat × List Value} {xs xs' : Nat → Option Nat} {locs : List Loc} (hE : oE0 G s) (hP0 : va_P G.1 cl0 ((a, .inr o1) :: (b, .inr o2) :: alT G ar cap xs) s.heap) (hP : va_P G.1 cl0 ((a, .inr o1') :: (b, .inr o2') :: alT G ar' cap' xs') H) (hS : va_S (va_A ((a, .inr o1) :: (b, .inr o2) :: alT G ar cap xs) s.heap.size) s.heap H locs) : ∀ z, oEl G s.heap z → oEl G H z :=
  fun z hz => hz.keep hE hP0 hP hS (fun x hx => by
    rcases List.mem_cons.mp hx with rfl | hx
    · exact Or.inr ⟨_, List.mem_cons_self⟩
    · rcases List.mem_cons.mp hx with rfl | hx
      · exact Or.inr ⟨_, List.mem_cons_of_mem _ List.mem_cons_self⟩
      · exact Or.inl (alT_mem hx))
set_option maxHeartbeats 4000000 in
set_option maxRecDepth 100000 in
theorem cm_put (l : Launch) (G : oG) (Z : oZ) (a b ar cap n mo : Nat) (md : Int32) (xs : Nat → Option Nat) (sa : Nat → Nat) (t v : Nat) (hn : n ≤ cap) (h0 : cap = 0 → ar = Z.2.2 0) (h2 : cap = 0 ∨ 2 ≤ cap) (hc : cap ≤ 40000) (hxs : ∀ j, j < n → xs j = some (sa j)) (hm : t = if n = mo then n - 1 else n) (hmo : 0 < mo ∧ mo ≤ 40000) (sz : Nat) : Met l yX2_put (ws_ yX2_put cX2_put 2 none) ({ frames := 7, cells := alC cap t, slots := alS cap t, locals := 161 }) (oPc1 G Z [.ref a, .ref v] (oPE1 G Z ((a, .inr (2, [.int (nI mo), .ref b])) :: (b, .inr (9, [.int md, .ref ar, .int (nI n)])) :: (alT G ar cap xs)) sz (fun H => oEl G H v ∧ ∀ j : Nat, j < n → oEl G H (sa j)))) (oE G (fun v_ W_ => v_ = none ∧ ∃ (md' : Int32) (q : Nat) (zs : Nat → Option Nat), (∀ j, j < t → zs j = some (if n = mo then sa (j + 1) else sa j)) ∧ zs t = some v ∧ W_ = (a, .inr (2, [.int (nI mo), .ref b])) :: alW G b q (alN cap t) (t + 1) md' zs) ((a, .inr (2, [.int (nI mo), .ref b])) :: (b, .inr (9, [.int md, .ref ar, .int (nI n)])) :: (alT G ar cap xs)) sz) (alC cap t) (alS cap t) (va_A ((a, .inr (2, [.int (nI mo), .ref b])) :: (b, .inr (9, [.int md, .ref ar, .int (nI n)])) :: (alT G ar cap xs)) sz) := by
  refine Met.ofW (cc := cX2_put) (maxL := 2) (ret := none) (by decide) rfl ?_
  intro p e s m args below meth c s₁ B hml hv
  obtain ⟨rfl, ⟨hsz, hP, hDb, hB, hX⟩, hE⟩ := hv
  have hD0 : va_D (fun _ => True) ((a, .inr (2, [.int (nI mo), .ref b])) :: (b, .inr (9, [.int md, .ref ar, .int (nI n)])) :: (alT G ar cap xs)) := oD_weak hDb (fun _ _ => trivial)
  have hx := B.exec
  have hb := B.bytes
  have hr := B.returns
  have hts := atoms_spec (ws := ws_ yX2_put cX2_put 2 none) B.pre
  have hts : ∀ w ∈ lw_all, w.before _ s = true := fun w h => hts w (List.mem_cons_of_mem _ h)
  have hown : s.vm.findClass RX2 = some m.cls := findClass_of_methodNamed B.named
  have hlocks := B.notSynchronized
  subst hsz
  obtain ⟨A, hAe⟩ : ∃ A, A = va_A ((a, .inr (2, [.int (nI mo), .ref b])) :: (b, .inr (9, [.int md, .ref ar, .int (nI n)])) :: (alT G ar cap xs)) s.heap.size := ⟨_, rfl⟩
  have hD : va_D A ((a, .inr (2, [.int (nI mo), .ref b])) :: (b, .inr (9, [.int md, .ref ar, .int (nI n)])) :: (alT G ar cap xs)) := by rw [hAe]; exact hD0.self
  have hA : ∀ q : Nat, s.heap.size ≤ q → A q := fun q h => by rw [hAe]; exact Or.inr h
  have hAZ : ∀ q : Nat, A q → Z.1 ≤ q := fun q h => oA_base hDb hB q (by rw [hAe] at h; exact h)
  have hl := lv_entry ([.ref a, .ref v]) (n := 2) (Nat.le_of_ble_eq_true rfl)
  rw [lg_entry_eq]
  generalize (lg_sl ([.ref a, .ref v]) ++ List.replicate (2 - (lg_sl ([.ref a, .ref v])).length) Slot.unset).toArray = ls at hl ⊢
  replace hl : lv_has ls 2 [(0, .ref a), (1, .ref v)] := hl
  have hP0 : va_P G.1 cl0 ((a, .inr (2, [.int (nI mo), .ref b])) :: (b, .inr (9, [.int md, .ref ar, .int (nI n)])) :: (alT G ar cap xs)) s.heap := hP
  refine ol_start (A := A) (fun H locs hH hS => ?_)
  have hX0 : oEl G s.heap v ∧ ∀ j : Nat, j < n → oEl G s.heap (sa j) := hX
  have hX1 := hX0
  rw [← hH] at hP hX1
  clear hH
  refine lv_aload_n hx hb dX2_put_0 rfl (lv_at hl 0 rfl) ?_
  refine va_get (D := G.1) (ci := 2) (v := .ref b) (C := RX2) (T := TX2) (N := 2) hx hb hts in_X2 hown hE.1.1 hP 0 rfl rfl 1 (by decide) (hts _ q137) (fun _ h9 => h9) rfl dX2_put_1 ?_
  refine ol_cF5 (st1 := [.int (nI n)]) (va_runF (As := []) (rest := []) (hE.1.1.1 9 _ rfl).2 ⟨hx, hb, hml, hown, hts⟩ (jr_size l G b ar n md) (va_cwF 0 hts (lw_F q471 q416 q418 q61 q420) rfl rfl rfl (hE.2.1 _ (List.mem_of_getElem? (i := 2) rfl)) (by decide +kernel) ⟨Nat.le_of_ble_eq_true rfl, Nat.le_of_ble_eq_true rfl⟩) (oPc.preV hE.1 (hE.1.recv (ci := 9) (hP 1 _ rfl) rfl) (hP.sub [1] rfl)) rfl rfl hl.1 rfl (lv_room (Nat.le_of_ble_eq_true rfl)) dX2_put_4 ⟨(by show 0 + 0 ≤ alC cap t; omega), (by show 0 + 0 ≤ alS cap t; omega)⟩) rfl ?_
  refine lv_aload_n hx hb dX2_put_9 rfl (lv_at hl 0 rfl) ?_
  refine va_get (D := G.1) (ci := 2) (v := .int (nI mo)) (C := RX2) (T := TX2) (N := 2) hx hb hts in_X2 hown hE.1.1 hP 0 rfl rfl 0 (by decide) (hts _ q136) (fun _ h9 => h9) rfl dX2_put_10 ?_
  refine ol_icmp_ne hx hb n mo (by omega) (by omega) (tgt := 27) dX2_put_13 (by decide) (fun c_13 => ?_) (fun c_13 => ?_)
  · have em : t = n := by rw [hm, if_neg c_13]
    have hc1 : alC cap t = alC cap n := by rw [em]
    have hs1 : alS cap t = alS cap n := by rw [em]
    refine lv_aload_n hx hb dX2_put_27 rfl (lv_at hl 0 rfl) ?_
    refine va_get (D := G.1) (ci := 2) (v := .ref b) (C := RX2) (T := TX2) (N := 2) hx hb hts in_X2 hown hE.1.1 hP 0 rfl rfl 1 (by decide) (hts _ q137) (fun _ h9 => h9) rfl dX2_put_28 ?_
    refine lv_aload_n hx hb dX2_put_31 rfl (lv_at hl 1 rfl) ?_
    have hk := keepL hE.1 hP0 hP (by rw [← hAe]; exact hS)
    have hys : ∀ j, j < n → xs j = some (sa j) := fun j hj => by exact hxs j hj
    refine ol_cP5 (W0 := alW G b ar cap (n) (md) xs) (Wr := [(a, .inr (2, [.int (nI mo), .ref b]))]) (va_runF (As := [.ref v]) (rest := []) (hE.1.1.1 9 _ rfl).2 ⟨hx, hb, hml, hown, hts⟩ (jm_add l G Z b ar cap (n) (md) xs v (by omega) h0 h2 hc H.size) (va_cwF 1 hts (lw_F q493 q178 q180 q61 q182) rfl rfl rfl (hE.2.1 _ (List.mem_of_getElem? (i := 0) rfl)) (by decide +kernel) ⟨Nat.le_of_ble_eq_true rfl, Nat.le_of_ble_eq_true rfl⟩) (oPc1.preV hE (hE.1.recv (ci := 9) (hP 1 _ rfl) rfl) ⟨rfl, (oP_le hP (fun x => by simp only [oCt, oCt_app, alW_eq]; omega)), oD_weak (oD_le hD ([(a, .inr (2, [.int (nI mo), .ref b]))]) (fun x => by simp only [oCt, oCt_app, alW_eq]; omega)) hAZ, hB.keep hS hAZ, ⟨hk v hX0.1, fun j hj z hz => by rw [hys j hj] at hz; cases hz; exact (hk _ (hX0.2 j hj))⟩⟩) rfl rfl hl.1 rfl (lv_room (Nat.le_of_ble_eq_true rfl)) dX2_put_32 ⟨(by show 0 + (alC cap (n)) ≤ alC cap t; omega), (by show 0 + (alS cap (n)) ≤ alS cap t; omega)⟩) (fun x => by simp only [oCt, oCt_app, alW_eq]; omega) hP hD hS hA (fun v_ W_ H locs hΦ hP hD hS => ?_)
    obtain ⟨q, zs, rfl, hz1, hz2, rfl⟩ := hΦ
    replace hP : va_P G.1 cl0 ((a, .inr (2, [.int (nI mo), .ref b])) :: (b, .inr (9, [.int (md + 1), .ref q, .int (nI ((n) + 1))])) :: (alT G q (alN cap (n)) zs)) H := oP_re hP (fun x => by simp only [oCt, oCt_app, alW_eq]; omega)
    replace hD : va_D A ((a, .inr (2, [.int (nI mo), .ref b])) :: (b, .inr (9, [.int (md + 1), .ref q, .int (nI ((n) + 1))])) :: (alT G q (alN cap (n)) zs)) := oD_re hD (fun x => by simp only [oCt, oCt_app, alW_eq]; omega)
    refine lv_pop hx hb dX2_put_37 rfl ?_
    subst hAe
    refine ol_cnt (cells' := alC cap t) (slots' := alS cap t) (by omega) (by omega) ?_
    exact ol_vretE hx hb hr hlocks ⟨rfl, md + 1, q, zs, (fun j hj => by rw [em] at hj; rw [hz1 j hj, hys j hj, if_neg c_13]), (by rw [em]; exact hz2), (by rw [em]; rfl)⟩ hP hD hS dX2_put_38
  · have em : t = n - 1 := by rw [hm, if_pos c_13]
    have hc1 : alC cap t = alC cap (n - 1) := by rw [em]
    have hs1 : alS cap t = alS cap (n - 1) := by rw [em]
    refine lv_aload_n hx hb dX2_put_16 rfl (lv_at hl 0 rfl) ?_
    refine va_get (D := G.1) (ci := 2) (v := .ref b) (C := RX2) (T := TX2) (N := 2) hx hb hts in_X2 hown hE.1.1 hP 0 rfl rfl 1 (by decide) (hts _ q137) (fun _ h9 => h9) rfl dX2_put_17 ?_
    refine lv_iconst (v := 0) hx hb dX2_put_20 (by decide) ?_
    have hx1 := alT_1 (G := G) (b := ar) (cap := cap) xs (by omega)
    refine ol_cP5 (W0 := [(b, .inr (9, [.int md, .ref ar, .int (nI n)])), (ar, .inl (G.2 5, cap, .inr (.inr (.inr (.inr xs)))))]) (Wr := [(a, .inr (2, [.int (nI mo), .ref b]))]) (va_runF (As := [.int (nI 0)]) (rest := []) (hE.1.1.1 9 _ rfl).2 ⟨hx, hb, hml, hown, hts⟩ (jm_remove l G b ar n cap md xs 0 (sa 0) (by omega) (by omega) (by omega) (hxs 0 (by omega)) H.size) (va_cwF 1 hts (lw_F q479 q482 q484 q61 q486) rfl rfl rfl (hE.2.1 _ (List.mem_of_getElem? (i := 4) rfl)) (by decide +kernel) ⟨Nat.le_of_ble_eq_true rfl, Nat.le_of_ble_eq_true rfl⟩) (oPc.preV hE.1 (hE.1.recv (ci := 9) (hP 1 _ rfl) rfl) ⟨rfl, (oP_le hP (fun x => by simp only [oCt, oCt_app, alW_eq, hx1]; omega)), oD_weak (oD_le hD ([(a, .inr (2, [.int (nI mo), .ref b]))]) (fun x => by simp only [oCt, oCt_app, alW_eq, hx1]; omega)) (fun _ _ => trivial), (fun j hj z hz => by rw [hxs j hj] at hz; cases hz; exact hX1.2 j hj)⟩) rfl rfl hl.1 rfl (lv_room (Nat.le_of_ble_eq_true rfl)) dX2_put_21 ⟨(by show 0 + 0 ≤ alC cap t; omega), (by show 0 + 0 ≤ alS cap t; omega)⟩) (fun x => by simp only [oCt, oCt_app, alW_eq, hx1]; omega) hP hD hS hA (fun v_ W_ H locs hΦ hP hD hS => ?_)
    obtain ⟨rfl, ys, hy1, hy2, rfl⟩ := hΦ
    replace hP : va_P G.1 cl0 ((a, .inr (2, [.int (nI mo), .ref b])) :: (b, .inr (9, [.int (md + 1), .ref ar, .int (nI (n - 1))])) :: (alT G ar cap ys)) H := oP_re hP (fun x => by simp only [oCt, oCt_app, alW_eq, alT_1 (G := G) (b := ar) (cap := cap) ys (show 0 < cap by omega)]; omega)
    replace hD : va_D A ((a, .inr (2, [.int (nI mo), .ref b])) :: (b, .inr (9, [.int (md + 1), .ref ar, .int (nI (n - 1))])) :: (alT G ar cap ys)) := oD_re hD (fun x => by simp only [oCt, oCt_app, alW_eq, alT_1 (G := G) (b := ar) (cap := cap) ys (show 0 < cap by omega)]; omega)
    refine lv_pop hx hb dX2_put_26 rfl ?_
    refine lv_aload_n hx hb dX2_put_27 rfl (lv_at hl 0 rfl) ?_
    refine va_get (D := G.1) (ci := 2) (v := .ref b) (C := RX2) (T := TX2) (N := 2) hx hb hts in_X2 hown hE.1.1 hP 0 rfl rfl 1 (by decide) (hts _ q137) (fun _ h9 => h9) rfl dX2_put_28 ?_
    refine lv_aload_n hx hb dX2_put_31 rfl (lv_at hl 1 rfl) ?_
    have hk := keepL hE.1 hP0 hP (by rw [← hAe]; exact hS)
    have hys : ∀ j, j < n - 1 → ys j = some (sa (j + 1)) := fun j hj => by rw [hy2 j (Nat.zero_le _) hj, hxs (j + 1) (by omega)]
    refine ol_cP5 (W0 := alW G b ar cap (n - 1) (md + 1) ys) (Wr := [(a, .inr (2, [.int (nI mo), .ref b]))]) (va_runF (As := [.ref v]) (rest := []) (hE.1.1.1 9 _ rfl).2 ⟨hx, hb, hml, hown, hts⟩ (jm_add l G Z b ar cap (n - 1) (md + 1) ys v (by omega) h0 h2 hc H.size) (va_cwF 1 hts (lw_F q493 q178 q180 q61 q182) rfl rfl rfl (hE.2.1 _ (List.mem_of_getElem? (i := 0) rfl)) (by decide +kernel) ⟨Nat.le_of_ble_eq_true rfl, Nat.le_of_ble_eq_true rfl⟩) (oPc1.preV hE (hE.1.recv (ci := 9) (hP 1 _ rfl) rfl) ⟨rfl, (oP_le hP (fun x => by simp only [oCt, oCt_app, alW_eq]; omega)), oD_weak (oD_le hD ([(a, .inr (2, [.int (nI mo), .ref b]))]) (fun x => by simp only [oCt, oCt_app, alW_eq]; omega)) hAZ, hB.keep hS hAZ, ⟨hk v hX0.1, fun j hj z hz => by rw [hys j hj] at hz; cases hz; exact (hk _ (hX0.2 (j + 1) (by omega)))⟩⟩) rfl rfl hl.1 rfl (lv_room (Nat.le_of_ble_eq_true rfl)) dX2_put_32 ⟨(by show 0 + (alC cap (n - 1)) ≤ alC cap t; omega), (by show 0 + (alS cap (n - 1)) ≤ alS cap t; omega)⟩) (fun x => by simp only [oCt, oCt_app, alW_eq]; omega) hP hD hS hA (fun v_ W_ H locs hΦ hP hD hS => ?_)
    obtain ⟨q, zs, rfl, hz1, hz2, rfl⟩ := hΦ
    replace hP : va_P G.1 cl0 ((a, .inr (2, [.int (nI mo), .ref b])) :: (b, .inr (9, [.int (md + 1 + 1), .ref q, .int (nI ((n - 1) + 1))])) :: (alT G q (alN cap (n - 1)) zs)) H := oP_re hP (fun x => by simp only [oCt, oCt_app, alW_eq]; omega)
    replace hD : va_D A ((a, .inr (2, [.int (nI mo), .ref b])) :: (b, .inr (9, [.int (md + 1 + 1), .ref q, .int (nI ((n - 1) + 1))])) :: (alT G q (alN cap (n - 1)) zs)) := oD_re hD (fun x => by simp only [oCt, oCt_app, alW_eq]; omega)
    refine lv_pop hx hb dX2_put_37 rfl ?_
    subst hAe
    refine ol_cnt (cells' := alC cap t) (slots' := alS cap t) (by omega) (by omega) ?_
    exact ol_vretE hx hb hr hlocks ⟨rfl, md + 1 + 1, q, zs, (fun j hj => by rw [em] at hj; rw [hz1 j hj, hys j hj, if_pos c_13]), (by rw [em]; exact hz2), (by rw [em]; rfl)⟩ hP hD hS dX2_put_38
