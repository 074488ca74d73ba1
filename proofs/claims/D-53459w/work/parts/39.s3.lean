/-! THE COMPONENT's STATE: is a key sensed, whose style is nearest -/
theorem cGap_m {x la : Int32} (hx : ¬ x < 0) (hl : ¬ la < 0) : cGap x la = (if x < la then la - x else x - la) ∧ ¬ cGap x la < 0 := by
  obtain ⟨e1, h1⟩ := nn_of hx
  obtain ⟨e2, h2⟩ := nn_of hl
  have t1 : x.toInt = (cN x : Int) := (congrArg Int32.toInt e1).trans (nI_toInt h1)
  have t2 : la.toInt = (cN la : Int) := (congrArg Int32.toInt e2).trans (nI_toInt h2)
  have d1 : (x - la).toInt = (cN x : Int) - cN la := by
    rw [Int32.toInt_sub, t1, t2, Int.bmod_def]
    split <;> omega
  have d2 : (la - x).toInt = (cN la : Int) - cN x := by
    rw [Int32.toInt_sub, t1, t2, Int.bmod_def]
    split <;> omega
  have z : (0 : Int32).toInt = 0 := rfl
  unfold cGap
  by_cases h : x < la
  · have h' := Int32.lt_iff_toInt_lt.mp h
    have hn : ¬ 0 ≤ x - la := by rw [Int32.le_iff_toInt_le]; omega
    have e3 : (0 : Int32) - (x - la) = la - x := by rw [Int32.zero_sub, Int32.neg_sub]
    rw [if_neg hn, if_pos h, e3]
    exact ⟨rfl, by rw [Int32.lt_iff_toInt_lt]; omega⟩
  · have h' : ¬ x.toInt < la.toInt := fun q => h (Int32.lt_iff_toInt_lt.mpr q)
    have hn : 0 ≤ x - la := by rw [Int32.le_iff_toInt_le]; omega
    rw [if_pos hn, if_neg h]
    exact ⟨rfl, by rw [Int32.lt_iff_toInt_lt]; omega⟩
/-- the distance by a style is the reference's -/
theorem cDist_off {r : Nat → Int32} {f : Nat → UInt32} {q : Nat} {x t : Int32} (hl : oNg (r (3 + q))) (hx : ¬ x < 0) : cDist (f (0 + q)) (f (2 + q)) (r (3 + q)) x t = mOff r f q x t := by
  unfold cDist mOff offF mGap
  by_cases h : r (3 + q) < 0
  · rw [hl h, if_pos rfl, if_pos (show (-5 : Int32) < 0 by decide), if_pos (show (-5 : Int32) < 0 by decide)]
  · have hn : ¬ r (3 + q) = -5 := fun e => h (by rw [e]; decide)
    obtain ⟨e, hg⟩ := cGap_m hx h
    rw [if_neg hn, if_neg h, ← e, if_neg hg]
set_option maxHeartbeats 4000000 in
set_option maxRecDepth 100000 in
theorem cr_isSensed (l : Launch) (G : oG) (Z : oZ) (γ : Nat → Nat) (X : Nat → Nat → Option Nat) (E : Nat → Nat → Nat) (r : Nat → Int32) (f : Nat → UInt32) (Rw Cl : Nat) (k : Nat) (hg : mG r Rw Cl) (hsk : sK γ X E (Rw * Cl)) (hk : k < Rw * Cl) (hsi : sI r (Rw * Cl)) : Met l yX1_isSensed (ws_ yX1_isSensed cX1_isSensed 2 (some .boolean)) ({ frames := 4, cells := 0, slots := 0, locals := 91 }) (oPc1 G Z [.ref (γ 0), .int (nI k)] (fun H => sR G γ X E r f (Rw * Cl) H)) (oR (some (.int (zB (mWs r Rw Cl k))))) 0 0 (fun _ => False) := by
  refine Met.ofW (cc := cX1_isSensed) (maxL := 2) (ret := (some .boolean)) (by decide) rfl ?_
  intro p e s m args below meth c s₁ B hml hv
  obtain ⟨rfl, hP, hE⟩ := hv
  have hx := B.exec
  have hb := B.bytes
  have hr := B.returns
  have hts := atoms_spec (ws := ws_ yX1_isSensed cX1_isSensed 2 (some .boolean)) B.pre
  have hts : ∀ w ∈ lw_all, w.before _ s = true := fun w h => hts w (List.mem_cons_of_mem _ h)
  have hown : s.vm.findClass RX1 = some m.cls := findClass_of_methodNamed B.named
  have hlocks := B.notSynchronized
  have hl := lv_entry ([.ref (γ 0), .int (nI k)]) (n := 2) (Nat.le_of_ble_eq_true rfl)
  rw [lg_entry_eq]
  generalize (lg_sl ([.ref (γ 0), .int (nI k)]) ++ List.replicate (2 - (lg_sl ([.ref (γ 0), .int (nI k)])).length) Slot.unset).toArray = ls at hl ⊢
  replace hl : lv_has ls 2 [(0, .ref (γ 0)), (1, .int (nI k))] := hl
  have hgn := mG_n hg
  have hg' := hg
  obtain ⟨hg0, hg1, hg2, hg3, hg4, hg5⟩ := hg'
  obtain ⟨hF, hK⟩ := hP
  have hsk1 := hsk
  obtain ⟨hk1, hk2, hk3, hk4⟩ := hsk1
  refine lv_aload_n hx hb dX1_isSensed_0 rfl (lv_at hl 0 rfl) ?_
  refine lv_iload_n hx hb dX1_isSensed_1 rfl (lv_at hl 1 rfl) ?_
  refine lv_aload_n hx hb dX1_isSensed_2 rfl (lv_at hl 0 rfl) ?_
  refine va_get (D := G.1) (ci := 1) (v := .int (r 1)) (C := RX1) (T := TX1) (N := 16) hx hb hts in_X1 hown hE.1.1 hF 0 rfl rfl 11 (by decide) (hts _ q261) (fun _ h9 => h9) rfl dX1_isSensed_3 ?_
  refine ol_top (y := nI Cl) hg1 ?_
  refine ol_idiv hx hb k Cl (by omega) (by omega) (by omega) dX1_isSensed_6 ?_
  have hdv : k / Cl < Rw := (Nat.div_lt_iff_lt_mul (by omega)).mpr hk
  have hdc : k % Cl < 8 := Nat.lt_of_lt_of_le (Nat.mod_lt _ (by omega)) hg5
  have hm := (mDrv_lt (r := r) hg3 ⟨hg4, hg5⟩ (show k / Cl < 6 by omega)).2
  refine ol_cR (st1 := [.int (nI ((mDrv r Rw Cl (k / Cl)).2))]) (va_runV (As := [.int (nI (k / Cl))]) (rest := []) ⟨hx, hb, hml, hown, hts⟩ (cr_sensed l G Z γ X E r f Rw Cl (k / Cl) hg hsk (by omega) hsi) (cwV 1 hts (lw_V q591 q592 q593 q58 q594) rfl rfl rfl (by decide +kernel) ⟨Nat.le_of_ble_eq_true rfl, Nat.le_of_ble_eq_true rfl⟩) (oPc1.preV hE (hE.1.recv (ci := 1) (hF 0 _ rfl) rfl) ⟨hF, hK⟩) rfl rfl hl.1 rfl (lv_room (Nat.le_of_ble_eq_true rfl)) dX1_isSensed_7 ⟨Nat.le_of_ble_eq_true rfl, Nat.le_of_ble_eq_true rfl⟩) rfl ?_
  refine lv_iload_n hx hb dX1_isSensed_10 rfl (lv_at hl 1 rfl) ?_
  refine lv_aload_n hx hb dX1_isSensed_11 rfl (lv_at hl 0 rfl) ?_
  refine va_get (D := G.1) (ci := 1) (v := .int (r 1)) (C := RX1) (T := TX1) (N := 16) hx hb hts in_X1 hown hE.1.1 hF 0 rfl rfl 11 (by decide) (hts _ q261) (fun _ h9 => h9) rfl dX1_isSensed_12 ?_
  refine ol_top (y := nI Cl) hg1 ?_
  refine ol_irem hx hb k Cl (by omega) (by omega) (by omega) dX1_isSensed_15 ?_
  refine lv_ishr hx hb dX1_isSensed_16 ?_
  refine lv_iconst (v := 1) hx hb dX1_isSensed_17 (by decide) ?_
  refine lv_iand hx hb dX1_isSensed_18 ?_
  refine ol_top (y := zB (Nat.testBit ((mDrv r Rw Cl (k / Cl)).2) (k % Cl))) (nb_bit (by omega) (by omega)) ?_
  refine lv_iconst (v := 1) hx hb dX1_isSensed_19 (by decide) ?_
  refine ol_icmp_neB hx hb (Nat.testBit ((mDrv r Rw Cl (k / Cl)).2) (k % Cl)) (tgt := 27) dX1_isSensed_20 (by decide) (fun c_20 => ?_) (fun c_20 => ?_)
  · refine lv_iconst (v := 0) hx hb dX1_isSensed_27 (by decide) ?_
    exact ol_zretR hx hb hr hlocks rfl (by simp [mWs, zB, c_20]) dX1_isSensed_28
  · refine lv_iconst (v := 1) hx hb dX1_isSensed_23 (by decide) ?_
    refine lv_goto (tgt := 28) hx hb dX1_isSensed_24 (by decide) ?_
    exact ol_zretR hx hb hr hlocks rfl (by simp [mWs, zB, c_20]) dX1_isSensed_28
set_option maxHeartbeats 4000000 in
set_option maxRecDepth 100000 in
theorem cr_nearest (l : Launch) (G : oG) (Z : oZ) (γ : Nat → Nat) (X : Nat → Nat → Option Nat) (E : Nat → Nat → Nat) (r : Nat → Int32) (f : Nat → UInt32) (Rw Cl : Nat) (x : Int32) (t : Int32) (hg : mG r Rw Cl) (hsk : sK γ X E (Rw * Cl)) (hm : mFo f) (hla : ∀ q, q < 2 → oNg (r (3 + q))) (hx0 : ¬ x < 0) : Met l yX1_nearest (ws_ yX1_nearest cX1_nearest 3 (some .int)) ({ frames := 3, cells := 0, slots := 0, locals := 57 }) (oPc1 G Z [.ref (γ 0), .int x, .int t] (fun H => sR G γ X E r f (Rw * Cl) H)) (oR (some (.int (zB (flt (mOff r f 1 x t) (mOff r f 0 x t)))))) 0 0 (fun _ => False) := by
  refine Met.ofW (cc := cX1_nearest) (maxL := 3) (ret := (some .int)) (by decide) rfl ?_
  intro p e s m args below meth c s₁ B hml hv
  obtain ⟨rfl, hP, hE⟩ := hv
  have hx := B.exec
  have hb := B.bytes
  have hr := B.returns
  have hts := atoms_spec (ws := ws_ yX1_nearest cX1_nearest 3 (some .int)) B.pre
  have hts : ∀ w ∈ lw_all, w.before _ s = true := fun w h => hts w (List.mem_cons_of_mem _ h)
  have hown : s.vm.findClass RX1 = some m.cls := findClass_of_methodNamed B.named
  have hlocks := B.notSynchronized
  have hl := lv_entry ([.ref (γ 0), .int x, .int t]) (n := 3) (Nat.le_of_ble_eq_true rfl)
  rw [lg_entry_eq]
  generalize (lg_sl ([.ref (γ 0), .int x, .int t]) ++ List.replicate (3 - (lg_sl ([.ref (γ 0), .int x, .int t])).length) Slot.unset).toArray = ls at hl ⊢
  replace hl : lv_has ls 3 [(0, .ref (γ 0)), (1, .int x), (2, .int t)] := hl
  have hgn := mG_n hg
  have hg' := hg
  obtain ⟨hg0, hg1, hg2, hg3, hg4, hg5⟩ := hg'
  obtain ⟨hF, hK⟩ := hP
  have hsk1 := hsk
  obtain ⟨hk1, hk2, hk3, hk4⟩ := hsk1
  refine lv_aload_n hx hb dX1_nearest_0 rfl (lv_at hl 0 rfl) ?_
  refine va_get (D := G.1) (ci := 1) (v := .ref (γ 31)) (C := RX1) (T := TX1) (N := 16) hx hb hts in_X1 hown hE.1.1 hF 0 rfl rfl 8 (by decide) (hts _ q255) (fun _ h9 => h9) rfl dX1_nearest_1 ?_
  refine lv_iconst (v := 1) hx hb dX1_nearest_4 (by decide) ?_
  refine ol_aald hx hb hE.1.1 hF 16 6 rfl rfl 1 (by decide) (by omega) rfl dX1_nearest_5 ?_
  refine lv_iload_n hx hb dX1_nearest_6 rfl (lv_at hl 1 rfl) ?_
  refine lv_iload_n hx hb dX1_nearest_7 rfl (lv_at hl 2 rfl) ?_
  refine ol_cR (st1 := [.float (cDist (f 1) (f 3) (r 4) x t)]) (va_runV (As := [.int x, .int t]) (rest := []) ⟨hx, hb, hml, hown, hts⟩ (cr_distance l G (γ 34) (f 1) (f 3) (r 4) x t (hm 1 (by omega)).1 (hm 1 (by omega)).2) (cwV 2 hts (lw_V q613 q614 q615 q63 q616) rfl rfl rfl (by decide +kernel) ⟨Nat.le_of_ble_eq_true rfl, Nat.le_of_ble_eq_true rfl⟩) (oPc.preV hE.1 (hE.1.recv (ci := 3) (hF 19 _ rfl) rfl) (hF.sub [19] rfl)) rfl rfl hl.1 rfl (lv_room (Nat.le_of_ble_eq_true rfl)) dX1_nearest_8 ⟨Nat.le_of_ble_eq_true rfl, Nat.le_of_ble_eq_true rfl⟩) rfl ?_
  refine ol_topf (y := mOff r f 1 x t) (cDist_off (q := 1) (hla 1 (by omega)) hx0) ?_
  refine lv_aload_n hx hb dX1_nearest_11 rfl (lv_at hl 0 rfl) ?_
  refine va_get (D := G.1) (ci := 1) (v := .ref (γ 31)) (C := RX1) (T := TX1) (N := 16) hx hb hts in_X1 hown hE.1.1 hF 0 rfl rfl 8 (by decide) (hts _ q255) (fun _ h9 => h9) rfl dX1_nearest_12 ?_
  refine lv_iconst (v := 0) hx hb dX1_nearest_15 (by decide) ?_
  refine ol_aald hx hb hE.1.1 hF 16 6 rfl rfl 0 (by decide) (by omega) rfl dX1_nearest_16 ?_
  refine lv_iload_n hx hb dX1_nearest_17 rfl (lv_at hl 1 rfl) ?_
  refine lv_iload_n hx hb dX1_nearest_18 rfl (lv_at hl 2 rfl) ?_
  refine ol_cR (st1 := [.float (cDist (f 0) (f 2) (r 3) x t), .float (mOff r f 1 x t)]) (va_runV (As := [.int x, .int t]) (rest := [.float (mOff r f 1 x t)]) ⟨hx, hb, hml, hown, hts⟩ (cr_distance l G (γ 33) (f 0) (f 2) (r 3) x t (hm 0 (by omega)).1 (hm 0 (by omega)).2) (cwV 2 hts (lw_V q613 q614 q615 q63 q616) rfl rfl rfl (by decide +kernel) ⟨Nat.le_of_ble_eq_true rfl, Nat.le_of_ble_eq_true rfl⟩) (oPc.preV hE.1 (hE.1.recv (ci := 3) (hF 18 _ rfl) rfl) (hF.sub [18] rfl)) rfl rfl hl.1 rfl (lv_room (Nat.le_of_ble_eq_true rfl)) dX1_nearest_19 ⟨Nat.le_of_ble_eq_true rfl, Nat.le_of_ble_eq_true rfl⟩) rfl ?_
  refine ol_topf (y := mOff r f 0 x t) (cDist_off (q := 0) (hla 0 (by omega)) hx0) ?_
  refine lv_fcmp hx hb dX1_nearest_22 ?_
  refine lv_if_ge (tgt := 30) hx hb dX1_nearest_23 (by decide) (fun c_23 => ?_) (fun c_23 => ?_)
  · refine lv_iconst (v := 0) hx hb dX1_nearest_30 (by decide) ?_
    exact ol_iretR hx hb hr hlocks rfl (by simp [flt, zB, c_23, Int32.not_lt.mpr c_23]) dX1_nearest_31
  · refine lv_iconst (v := 1) hx hb dX1_nearest_26 (by decide) ?_
    refine lv_goto (tgt := 31) hx hb dX1_nearest_27 (by decide) ?_
    exact ol_iretR hx hb hr hlocks rfl (by simp [flt, zB, c_23, Int32.not_le.mp c_23]) dX1_nearest_31
