/-! THE REFERENCE: moves, perform, build, set, its constructor -/
theorem mMsI_0 {b : Bool} {tx : Nat → Int32} {ln Rw Cl : Nat} {x : mT} (h60 : ln ≤ 60) (h0 : x.1 = 0) (hok : mMsOK b tx ln Rw Cl 61 x) : mMsI b tx ln Rw Cl (mMs b tx ln Rw Cl 61 x) (x, true, 61) :=
  ⟨by show x.1 ≤ ln; omega, by rw [if_pos rfl]; exact ⟨by show ln - x.1 < 61; omega, rfl, hok⟩⟩
theorem mMsI_go {b : Bool} {tx : Nat → Int32} {ln Rw Cl : Nat} {z : mT} {y : mT × Bool × Nat} (h : mMsI b tx ln Rw Cl z y) (hy : y.2.1 = true) : ∃ g, y.2.2 = g + 1 ∧ mMvOK b tx ln Rw Cl y.1 := by
  obtain ⟨h1, h2⟩ := h
  rw [if_pos hy] at h2
  obtain ⟨h3, h4, h5⟩ := h2
  cases e : y.2.2 with
  | zero => omega
  | succ g => rw [e] at h5; exact ⟨g, rfl, h5.1⟩
theorem mMsI_bad {b : Bool} {tx : Nat → Int32} {ln Rw Cl : Nat} {z : mT} {y : mT × Bool × Nat} (h : mMsI b tx ln Rw Cl z y) (hy : y.2.1 = true) (hv : (mMv b tx ln Rw Cl y.1).2.2.2.1 < 0) : mMv b tx ln Rw Cl y.1 = z := by
  obtain ⟨g, hg, -⟩ := mMsI_go h hy
  have h2 := h.2
  rw [if_pos hy, hg] at h2
  rw [← h2.2.1, mMs, if_pos hv]
theorem mMsI_next {b : Bool} {tx : Nat → Int32} {ln Rw Cl : Nat} {z : mT} {y : mT × Bool × Nat} (h : mMsI b tx ln Rw Cl z y) (hy : y.2.1 = true) (hv : ¬ (mMv b tx ln Rw Cl y.1).2.2.2.1 < 0) {q : Bool} {w : Nat} (hq : mSees tx (mvT tx y.1.1 ln) ln 59 59 = q) (hw : w = if q = true then 1 else 0) :
    mMsI b tx ln Rw Cl z ((mvT tx y.1.1 ln + w, (mMv b tx ln Rw Cl y.1).2.1, (mMv b tx ln Rw Cl y.1).2.2.1, y.1.2.2.2.1 + (mMv b tx ln Rw Cl y.1).2.2.2.1, (mMv b tx ln Rw Cl y.1).2.2.2.2.1, (mMv b tx ln Rw Cl y.1).2.2.2.2.2), q, y.2.2 - 1)
    ∧ mMsU ln ((mvT tx y.1.1 ln + w, (mMv b tx ln Rw Cl y.1).2.1, (mMv b tx ln Rw Cl y.1).2.2.1, y.1.2.2.2.1 + (mMv b tx ln Rw Cl y.1).2.2.2.1, (mMv b tx ln Rw Cl y.1).2.2.2.2.1, (mMv b tx ln Rw Cl y.1).2.2.2.2.2), q, y.2.2 - 1) < mMsU ln y := by
  obtain ⟨g, hg, -⟩ := mMsI_go h hy
  obtain ⟨h1, h2⟩ := h
  rw [if_pos hy, hg] at h2
  obtain ⟨h3, h4, h5⟩ := h2
  have hT := mvT_le (tx := tx) h1
  rw [mMs, if_neg hv] at h4
  cases q with
  | true =>
    have hlt := (sees_t hq).1
    rw [if_pos hq] at h4
    rw [if_pos rfl] at hw
    subst hw
    refine ⟨⟨by show mvT tx y.1.1 ln + 1 ≤ ln; omega, ?_⟩, ?_⟩
    · rw [if_pos rfl, hg]
      exact ⟨by show ln - (mvT tx y.1.1 ln + 1) < g + 1 - 1; omega, h4, h5.2 hv hq⟩
    · unfold mMsU
      rw [if_pos rfl, if_pos hy]
      show 1 + (ln - (mvT tx y.1.1 ln + 1)) < 1 + (ln - y.1.1)
      omega
  | false =>
    rw [if_neg (by rw [hq]; decide)] at h4
    rw [if_neg (by decide)] at hw
    subst hw
    refine ⟨⟨by show mvT tx y.1.1 ln + 0 ≤ ln; omega, ?_⟩, ?_⟩
    · rw [if_neg (by simp)]; exact h4
    · unfold mMsU
      rw [if_neg (by simp), if_pos hy]; omega
theorem mMsI_end {b : Bool} {tx : Nat → Int32} {ln Rw Cl : Nat} {z : mT} {y : mT × Bool × Nat} (h : mMsI b tx ln Rw Cl z y) (hy : y.2.1 = false) : (y.1.1, y.1.2.1, y.1.2.2.1, (if y.1.1 < ln then -100 else y.1.2.2.2.1), y.1.2.2.2.2.1, y.1.2.2.2.2.2) = z := by
  have h2 := h.2
  rw [hy, if_neg (by decide)] at h2
  exact h2
set_option maxHeartbeats 4000000 in
set_option maxRecDepth 100000 in
theorem mm_moves (l : Launch) (G : oG) (ad : Nat → Nat) (iS : Int32) (iA : Int32) (ln : Nat) (iT : Int32) (iC : Int32) (iR : Int32) (r : Nat → Int32) (pr : Nat → Int32) (ar : Nat → Int32) (br : Nat → Int32) (f : Nat → UInt32) (pf : Nat → UInt32) (af : Nat → UInt32) (bf : Nat → UInt32) (tx : Nat → Int32) (b : Bool) (Rw Cl : Nat) (h60 : ln ≤ 60) (hok : mMsOK b tx ln Rw Cl 61 (0, r, f, 0, iC, iR)) (sz : Nat) : Met l yX5_moves (ws_ yX5_moves cX5_moves 5 (some .int)) ({ frames := 7, cells := 0, slots := 0, locals := 180 }) (oPc G [.ref (ad 0), .int (zB b)] (oPE G (mW G ad iS iA (nI ln) iT iC iR r pr ar br f pf af bf tx) sz (fun _ => True))) (oE G (fun v_ W_ => v_ = some (.int ((mMs b tx ln Rw Cl 61 (0, r, f, 0, iC, iR)).2.2.2.1)) ∧ W_ = mW G ad iS iA (nI ln) (nI (mMs b tx ln Rw Cl 61 (0, r, f, 0, iC, iR)).1) ((mMs b tx ln Rw Cl 61 (0, r, f, 0, iC, iR)).2.2.2.2.1) ((mMs b tx ln Rw Cl 61 (0, r, f, 0, iC, iR)).2.2.2.2.2) ((mMs b tx ln Rw Cl 61 (0, r, f, 0, iC, iR)).2.1) pr ar br ((mMs b tx ln Rw Cl 61 (0, r, f, 0, iC, iR)).2.2.1) pf af bf tx) (mW G ad iS iA (nI ln) iT iC iR r pr ar br f pf af bf tx) sz) 0 0 (va_A (mW G ad iS iA (nI ln) iT iC iR r pr ar br f pf af bf tx) sz) := by
  refine Met.ofW (cc := cX5_moves) (maxL := 5) (ret := (some .int)) (by decide) rfl ?_
  intro p e s m args below meth c s₁ B hml hv
  obtain ⟨rfl, ⟨hsz, hP, hD0, hX⟩, hE⟩ := hv
  have hx := B.exec
  have hb := B.bytes
  have hr := B.returns
  have hts := atoms_spec (ws := ws_ yX5_moves cX5_moves 5 (some .int)) B.pre
  have hts : ∀ w ∈ lw_all, w.before _ s = true := fun w h => hts w (List.mem_cons_of_mem _ h)
  have hown : s.vm.findClass RX5 = some m.cls := findClass_of_methodNamed B.named
  have hlocks := B.notSynchronized
  subst hsz
  have hD := hD0.self (sz := s.heap.size)
  have hA : ∀ q : Nat, s.heap.size ≤ q → va_A (mW G ad iS iA (nI ln) iT iC iR r pr ar br f pf af bf tx) s.heap.size q := fun q h => Or.inr h
  have hl := lv_entry ([.ref (ad 0), .int (zB b)]) (n := 5) (Nat.le_of_ble_eq_true rfl)
  rw [lg_entry_eq]
  generalize (lg_sl ([.ref (ad 0), .int (zB b)]) ++ List.replicate (5 - (lg_sl ([.ref (ad 0), .int (zB b)])).length) Slot.unset).toArray = ls at hl ⊢
  replace hl : lv_has ls 5 [(0, .ref (ad 0)), (1, .int (zB b))] := hl
  refine ol_start (A := va_A (mW G ad iS iA (nI ln) iT iC iR r pr ar br f pf af bf tx) s.heap.size) (fun H locs hH hS => ?_)
  rw [← hH] at hP
  clear hH
  refine lv_aload_n hx hb dX5_moves_0 rfl (lv_at hl 0 rfl) ?_
  refine lv_iconst (v := 0) hx hb dX5_moves_1 (by decide) ?_
  refine va_put (D := G.1) (ci := 12) (v := .int 0) (ty := .int) (C := RX5) (T := TX5) (N := 15) hx hb hts in_X5 tyX5 tyX5_ok nmX5 hown hE.1 hP hD hS 0 rfl rfl 12 (by decide) (hts _ q1147) (fun _ h9 => h9) rfl (by decide +kernel) rfl rfl (Nat.le_of_ble_eq_true rfl) dX5_moves_2 (fun H locs hP hD hS => ?_)
  replace hP : va_P G.1 cl0 (mW G ad iS iA (nI ln) 0 iC iR r pr ar br f pf af bf tx) H := hP
  replace hD : va_D (va_A (mW G ad iS iA (nI ln) iT iC iR r pr ar br f pf af bf tx) s.heap.size) (mW G ad iS iA (nI ln) 0 iC iR r pr ar br f pf af bf tx) := hD
  refine lv_iconst (v := 0) hx hb dX5_moves_5 (by decide) ?_
  refine lv_istore_n (lv' := [(2, .int 0), (0, .ref (ad 0)), (1, .int (zB b))]) hx hb dX5_moves_6 rfl hl (by decide) rfl (fun ls hl => ?_)
  refine lv_iconst (v := 1) hx hb dX5_moves_7 (by decide) ?_
  refine lv_istore_n (lv' := [(3, .int 1), (2, .int 0), (0, .ref (ad 0)), (1, .int (zB b))]) hx hb dX5_moves_8 rfl hl (by decide) rfl (fun ls hl => ?_)
  refine ol_while (P := fun (y : mT × Bool × Nat) H locs ls => lv_has ls 5 [(2, .int y.1.2.2.2.1), (3, .int (zB y.2.1)), (0, .ref (ad 0)), (1, .int (zB b))] ∧ va_P G.1 cl0 (mW G ad iS iA (nI ln) (nI y.1.1) y.1.2.2.2.2.1 y.1.2.2.2.2.2 y.1.2.1 pr ar br y.1.2.2.1 pf af bf tx) H ∧ va_D (va_A (mW G ad iS iA (nI ln) iT iC iR r pr ar br f pf af bf tx) s.heap.size) (mW G ad iS iA (nI ln) (nI y.1.1) y.1.2.2.2.2.1 y.1.2.2.2.2.2 y.1.2.1 pr ar br y.1.2.2.1 pf af bf tx) ∧ va_S (va_A (mW G ad iS iA (nI ln) iT iC iR r pr ar br f pf af bf tx) s.heap.size) s.heap H locs ∧ mMsI b tx ln Rw Cl (mMs b tx ln Rw Cl 61 (0, r, f, 0, iC, iR)) y) (mMsU ln) ((0, r, f, 0, iC, iR), true, 61) ⟨lv_sub hl [1, 0, 2, 3] rfl, hP, hD, hS, mMsI_0 h60 rfl hok⟩ (fun y H locs ls hI ihw => ?_)
  obtain ⟨hl, hP, hD, hS, hV⟩ := hI
  have hV1 := hV.1
  refine lv_iload_n hx hb dX5_moves_9 rfl (lv_at hl 1 rfl) ?_
  refine ol_if_eqB hx hb y.2.1 (tgt := 63) dX5_moves_10 (by decide) (fun c_10 => ?_) (fun c_10 => ?_)
  · refine lv_aload_n hx hb dX5_moves_63 rfl (lv_at hl 2 rfl) ?_
    refine va_get (D := G.1) (ci := 12) (v := .int (nI y.1.1)) (C := RX5) (T := TX5) (N := 15) hx hb hts in_X5 hown hE.1 hP 0 rfl rfl 12 (by decide) (hts _ q1147) (fun _ h9 => h9) rfl dX5_moves_64 ?_
    refine lv_aload_n hx hb dX5_moves_67 rfl (lv_at hl 2 rfl) ?_
    refine va_get (D := G.1) (ci := 12) (v := .int (nI ln)) (C := RX5) (T := TX5) (N := 15) hx hb hts in_X5 hown hE.1 hP 0 rfl rfl 11 (by decide) (hts _ q1146) (fun _ h9 => h9) rfl dX5_moves_68 ?_
    refine ol_icmp_ge hx hb y.1.1 ln (by omega) (by omega) (tgt := 79) dX5_moves_71 (by decide) (fun c_71 => ?_) (fun c_71 => ?_)
    · refine lv_iload_n hx hb dX5_moves_79 rfl (lv_at hl 0 rfl) ?_
      have he := mMsI_end hV c_10
      exact ol_iretE hx hb hr hlocks ⟨congrArg (fun z => some (Value.int z)) (by rw [← he]; simp [c_71, Nat.not_lt.mpr c_71]), (by rw [← he])⟩ hP hD hS dX5_moves_80
    · refine lv_bipush (v := (-100)) hx hb dX5_moves_74 (by decide) ?_
      refine lv_goto (tgt := 80) hx hb dX5_moves_76 (by decide) ?_
      have he := mMsI_end hV c_10
      exact ol_iretE hx hb hr hlocks ⟨congrArg (fun z => some (Value.int z)) (by rw [← he]; simp [c_71, Nat.not_le.mpr c_71]), (by rw [← he])⟩ hP hD hS dX5_moves_80
  · obtain ⟨g, hg1, hmv⟩ := mMsI_go hV c_10
    have hTl := mvT_le (tx := tx) hV1
    refine lv_aload_n hx hb dX5_moves_13 rfl (lv_at hl 2 rfl) ?_
    refine lv_iload_n hx hb dX5_moves_14 rfl (lv_at hl 3 rfl) ?_
    have hmvx : mMvOK b tx ln Rw Cl (y.1.1, y.1.2.1, y.1.2.2.1, 0, y.1.2.2.2.2.1, y.1.2.2.2.2.2) := hmv
    refine ol_cM (st1 := [.int ((mMv b tx ln Rw Cl (y.1.1, y.1.2.1, y.1.2.2.1, 0, y.1.2.2.2.2.1, y.1.2.2.2.2.2)).2.2.2.1)]) (va_runV (As := [.int (zB b)]) (rest := []) ⟨hx, hb, hml, hown, hts⟩ (mm_move l G ad iS iA ln y.1.1 y.1.2.2.2.2.1 y.1.2.2.2.2.2 y.1.2.1 pr ar br y.1.2.2.1 pf af bf tx b Rw Cl (by omega) hV1 hmvx H.size) (cwV 1 hts (lw_V q1367 q1369 qs49 q73 q1370) rfl rfl rfl (by decide +kernel) ⟨Nat.le_of_ble_eq_true rfl, Nat.le_of_ble_eq_true rfl⟩) (oPc.preV hE (hE.recv (ci := 12) (hP 0 _ rfl) rfl) ⟨rfl, hP, oD_weak hD (fun _ _ => trivial), trivial⟩) rfl rfl hl.1 rfl (lv_room (Nat.le_of_ble_eq_true rfl)) dX5_moves_15 ⟨Nat.le_of_ble_eq_true rfl, Nat.le_of_ble_eq_true rfl⟩) hP hD hS hA rfl (fun H locs hP hD hS => ?_)
    have em : mMv b tx ln Rw Cl (y.1.1, y.1.2.1, y.1.2.2.1, 0, y.1.2.2.2.2.1, y.1.2.2.2.2.2) = mMv b tx ln Rw Cl y.1 := rfl
    rw [em] at hP hD
    replace hP : va_P G.1 cl0 (mW G ad iS iA (nI ln) (nI (mvT tx y.1.1 ln)) ((mMv b tx ln Rw Cl y.1).2.2.2.2.1) ((mMv b tx ln Rw Cl y.1).2.2.2.2.2) ((mMv b tx ln Rw Cl y.1).2.1) pr ar br ((mMv b tx ln Rw Cl y.1).2.2.1) pf af bf tx) H := by rw [show nI (mvT tx y.1.1 ln) = nI (mMv b tx ln Rw Cl y.1).1 from by rw [mMv_1]]; exact hP
    replace hD : va_D (va_A (mW G ad iS iA (nI ln) iT iC iR r pr ar br f pf af bf tx) s.heap.size) (mW G ad iS iA (nI ln) (nI (mvT tx y.1.1 ln)) ((mMv b tx ln Rw Cl y.1).2.2.2.2.1) ((mMv b tx ln Rw Cl y.1).2.2.2.2.2) ((mMv b tx ln Rw Cl y.1).2.1) pr ar br ((mMv b tx ln Rw Cl y.1).2.2.1) pf af bf tx) := mD_any hD
    refine ol_top (y := (mMv b tx ln Rw Cl y.1).2.2.2.1) (by rw [em]) ?_
    refine lv_istore (lv' := [(4, .int ((mMv b tx ln Rw Cl y.1).2.2.2.1)), (2, .int y.1.2.2.2.1), (3, .int (zB y.2.1)), (0, .ref (ad 0)), (1, .int (zB b))]) hx hb dX5_moves_18 hl (by decide) rfl (fun ls hl => ?_)
    refine lv_iload hx hb dX5_moves_20 (lv_at hl 0 rfl) ?_
    refine lv_if_ge (tgt := 28) hx hb dX5_moves_22 (by decide) (fun c_22 => ?_) (fun c_22 => ?_)
    · refine lv_iload_n hx hb dX5_moves_28 rfl (lv_at hl 1 rfl) ?_
      refine lv_iload hx hb dX5_moves_29 (lv_at hl 0 rfl) ?_
      refine lv_iadd hx hb dX5_moves_31 ?_
      refine lv_istore_n (lv' := [(2, .int (y.1.2.2.2.1 + ((mMv b tx ln Rw Cl y.1).2.2.2.1))), (4, .int ((mMv b tx ln Rw Cl y.1).2.2.2.1)), (3, .int (zB y.2.1)), (0, .ref (ad 0)), (1, .int (zB b))]) hx hb dX5_moves_32 rfl hl (by decide) rfl (fun ls hl => ?_)
      refine lv_aload_n hx hb dX5_moves_33 rfl (lv_at hl 3 rfl) ?_
      refine lv_bipush (v := 59) hx hb dX5_moves_34 (by decide) ?_
      refine lv_bipush (v := 59) hx hb dX5_moves_36 (by decide) ?_
      refine ol_cR (st1 := [.int (zB (mSees tx (mvT tx y.1.1 ln) ln 59 59))]) (va_runV (As := [.int 59, .int 59]) (rest := []) ⟨hx, hb, hml, hown, hts⟩ (mr_sees l G ad iS iA ln (mvT tx y.1.1 ln) ((mMv b tx ln Rw Cl y.1).2.2.2.2.1) ((mMv b tx ln Rw Cl y.1).2.2.2.2.2) ((mMv b tx ln Rw Cl y.1).2.1) pr ar br ((mMv b tx ln Rw Cl y.1).2.2.1) pf af bf tx 59 59 (by omega) (by omega)) (cwV 2 hts (lw_V q1371 q1373 qs50 q73 q1374) rfl rfl rfl (by decide +kernel) ⟨Nat.le_of_ble_eq_true rfl, Nat.le_of_ble_eq_true rfl⟩) (oPc.preV hE (hE.recv (ci := 12) (hP 0 _ rfl) rfl) hP) rfl rfl hl.1 rfl (lv_room (Nat.le_of_ble_eq_true rfl)) dX5_moves_38 ⟨Nat.le_of_ble_eq_true rfl, Nat.le_of_ble_eq_true rfl⟩) rfl ?_
      refine lv_istore_n (lv' := [(3, .int (zB (mSees tx (mvT tx y.1.1 ln) ln 59 59))), (2, .int (y.1.2.2.2.1 + ((mMv b tx ln Rw Cl y.1).2.2.2.1))), (4, .int ((mMv b tx ln Rw Cl y.1).2.2.2.1)), (0, .ref (ad 0)), (1, .int (zB b))]) hx hb dX5_moves_41 rfl hl (by decide) rfl (fun ls hl => ?_)
      refine lv_aload_n hx hb dX5_moves_42 rfl (lv_at hl 3 rfl) ?_
      refine lv_dup hx hb dX5_moves_43 rfl ?_
      refine va_get (D := G.1) (ci := 12) (v := .int (nI (mvT tx y.1.1 ln))) (C := RX5) (T := TX5) (N := 15) hx hb hts in_X5 hown hE.1 hP 0 rfl rfl 12 (by decide) (hts _ q1147) (fun _ h9 => h9) rfl dX5_moves_44 ?_
      refine lv_iload_n hx hb dX5_moves_47 rfl (lv_at hl 0 rfl) ?_
      refine ol_if_eqB hx hb (mSees tx (mvT tx y.1.1 ln) ln 59 59) (tgt := 55) dX5_moves_48 (by decide) (fun c_48 => ?_) (fun c_48 => ?_)
      · refine lv_iconst (v := 0) hx hb dX5_moves_55 (by decide) ?_
        refine ol_iadd hx hb (mvT tx y.1.1 ln) 0 dX5_moves_56 ?_
        refine va_put (D := G.1) (ci := 12) (v := .int (nI (mvT tx y.1.1 ln + 0))) (ty := .int) (C := RX5) (T := TX5) (N := 15) hx hb hts in_X5 tyX5 tyX5_ok nmX5 hown hE.1 hP hD hS 0 rfl rfl 12 (by decide) (hts _ q1147) (fun _ h9 => h9) rfl (by decide +kernel) rfl rfl (Nat.le_of_ble_eq_true rfl) dX5_moves_57 (fun H locs hP hD hS => ?_)
        replace hP : va_P G.1 cl0 (mW G ad iS iA (nI ln) (nI (mvT tx y.1.1 ln + 0)) ((mMv b tx ln Rw Cl y.1).2.2.2.2.1) ((mMv b tx ln Rw Cl y.1).2.2.2.2.2) ((mMv b tx ln Rw Cl y.1).2.1) pr ar br ((mMv b tx ln Rw Cl y.1).2.2.1) pf af bf tx) H := hP
        replace hD : va_D (va_A (mW G ad iS iA (nI ln) iT iC iR r pr ar br f pf af bf tx) s.heap.size) (mW G ad iS iA (nI ln) (nI (mvT tx y.1.1 ln + 0)) ((mMv b tx ln Rw Cl y.1).2.2.2.2.1) ((mMv b tx ln Rw Cl y.1).2.2.2.2.2) ((mMv b tx ln Rw Cl y.1).2.1) pr ar br ((mMv b tx ln Rw Cl y.1).2.2.1) pf af bf tx) := hD
        refine lv_goto (tgt := 9) hx hb dX5_moves_60 (by decide) ?_
        obtain ⟨hn1, hn2⟩ := mMsI_next hV c_10 (Int32.not_lt.mpr c_22) (q := false) (w := 0) c_48 rfl
        exact ihw _ H locs ls hn2 ⟨by rw [← c_48]; exact lv_sub hl [1, 0, 3, 4] rfl, hP, hD, hS, hn1⟩
      · refine lv_iconst (v := 1) hx hb dX5_moves_51 (by decide) ?_
        refine lv_goto (tgt := 56) hx hb dX5_moves_52 (by decide) ?_
        refine ol_iadd hx hb (mvT tx y.1.1 ln) 1 dX5_moves_56 ?_
        refine va_put (D := G.1) (ci := 12) (v := .int (nI (mvT tx y.1.1 ln + 1))) (ty := .int) (C := RX5) (T := TX5) (N := 15) hx hb hts in_X5 tyX5 tyX5_ok nmX5 hown hE.1 hP hD hS 0 rfl rfl 12 (by decide) (hts _ q1147) (fun _ h9 => h9) rfl (by decide +kernel) rfl rfl (Nat.le_of_ble_eq_true rfl) dX5_moves_57 (fun H locs hP hD hS => ?_)
        replace hP : va_P G.1 cl0 (mW G ad iS iA (nI ln) (nI (mvT tx y.1.1 ln + 1)) ((mMv b tx ln Rw Cl y.1).2.2.2.2.1) ((mMv b tx ln Rw Cl y.1).2.2.2.2.2) ((mMv b tx ln Rw Cl y.1).2.1) pr ar br ((mMv b tx ln Rw Cl y.1).2.2.1) pf af bf tx) H := hP
        replace hD : va_D (va_A (mW G ad iS iA (nI ln) iT iC iR r pr ar br f pf af bf tx) s.heap.size) (mW G ad iS iA (nI ln) (nI (mvT tx y.1.1 ln + 1)) ((mMv b tx ln Rw Cl y.1).2.2.2.2.1) ((mMv b tx ln Rw Cl y.1).2.2.2.2.2) ((mMv b tx ln Rw Cl y.1).2.1) pr ar br ((mMv b tx ln Rw Cl y.1).2.2.1) pf af bf tx) := hD
        refine lv_goto (tgt := 9) hx hb dX5_moves_60 (by decide) ?_
        obtain ⟨hn1, hn2⟩ := mMsI_next hV c_10 (Int32.not_lt.mpr c_22) (q := true) (w := 1) c_48 rfl
        exact ihw _ H locs ls hn2 ⟨by rw [← c_48]; exact lv_sub hl [1, 0, 3, 4] rfl, hP, hD, hS, hn1⟩
    · refine lv_iload hx hb dX5_moves_25 (lv_at hl 0 rfl) ?_
      have he := mMsI_bad hV c_10 (Int32.not_le.mp c_22)
      exact ol_iretE hx hb hr hlocks ⟨congrArg (fun z => some (Value.int z)) (by rw [← he]), (by rw [← he, mMv_1])⟩ hP hD hS dX5_moves_27
set_option maxHeartbeats 4000000 in
set_option maxRecDepth 100000 in
theorem mm_perform (l : Launch) (G : oG) (ad : Nat → Nat) (st : Nat) (iA : Int32) (ln : Nat) (iT : Int32) (iC : Int32) (iR : Int32) (r : Nat → Int32) (pr : Nat → Int32) (ar : Nat → Int32) (br : Nat → Int32) (f : Nat → UInt32) (pf : Nat → UInt32) (af : Nat → UInt32) (bf : Nat → UInt32) (tx : Nat → Int32)  (Rw Cl : Nat) (h60 : ln ≤ 60) (hg : mG r Rw Cl) (hok : mMsOK true tx ln Rw Cl 61 (0, r, f, 0, iC, iR)) (hst : st ≤ 4) (sz : Nat) : Met l yX5_perform (ws_ yX5_perform cX5_perform 2 (some .int)) ({ frames := 8, cells := 0, slots := 0, locals := 204 }) (oPc G [.ref (ad 0)] (oPE G (mW G ad (nI st) iA (nI ln) iT iC iR r pr ar br f pf af bf tx) sz (fun _ => True))) (oE G (fun v_ W_ => v_ = some (.int (if (mMs false tx ln Rw Cl 61 (0, r, f, 0, iC, iR)).2.2.2.1 < 0 then -100 - nI (mMs false tx ln Rw Cl 61 (0, r, f, 0, iC, iR)).1 else if (mMs true tx ln Rw Cl 61 (0, r, f, 0, iC, iR)).2.2.2.1 < 0 then (mMs true tx ln Rw Cl 61 (0, r, f, 0, iC, iR)).2.2.2.1 else (mMs true tx ln Rw Cl 61 (0, r, f, 0, iC, iR)).2.2.2.1)) ∧ W_ = mW G ad (nI (if (mMs false tx ln Rw Cl 61 (0, r, f, 0, iC, iR)).2.2.2.1 < 0 then st else if (mMs true tx ln Rw Cl 61 (0, r, f, 0, iC, iR)).2.2.2.1 < 0 then st else mRecN st)) iA (nI ln) (nI (if (mMs false tx ln Rw Cl 61 (0, r, f, 0, iC, iR)).2.2.2.1 < 0 then (mMs false tx ln Rw Cl 61 (0, r, f, 0, iC, iR)).1 else if (mMs true tx ln Rw Cl 61 (0, r, f, 0, iC, iR)).2.2.2.1 < 0 then (mMs true tx ln Rw Cl 61 (0, r, f, 0, iC, iR)).1 else (mMs true tx ln Rw Cl 61 (0, r, f, 0, iC, iR)).1)) (if (mMs false tx ln Rw Cl 61 (0, r, f, 0, iC, iR)).2.2.2.1 < 0 then iC else if (mMs true tx ln Rw Cl 61 (0, r, f, 0, iC, iR)).2.2.2.1 < 0 then (mMs true tx ln Rw Cl 61 (0, r, f, 0, iC, iR)).2.2.2.2.1 else (mMs true tx ln Rw Cl 61 (0, r, f, 0, iC, iR)).2.2.2.2.1) (if (mMs false tx ln Rw Cl 61 (0, r, f, 0, iC, iR)).2.2.2.1 < 0 then iR else if (mMs true tx ln Rw Cl 61 (0, r, f, 0, iC, iR)).2.2.2.1 < 0 then (mMs true tx ln Rw Cl 61 (0, r, f, 0, iC, iR)).2.2.2.2.2 else (mMs true tx ln Rw Cl 61 (0, r, f, 0, iC, iR)).2.2.2.2.2) (if (mMs false tx ln Rw Cl 61 (0, r, f, 0, iC, iR)).2.2.2.1 < 0 then r else if (mMs true tx ln Rw Cl 61 (0, r, f, 0, iC, iR)).2.2.2.1 < 0 then mCp (mCp r br 592) (mMs true tx ln Rw Cl 61 (0, r, f, 0, iC, iR)).2.1 592 else (mMs true tx ln Rw Cl 61 (0, r, f, 0, iC, iR)).2.1) (if (mMs false tx ln Rw Cl 61 (0, r, f, 0, iC, iR)).2.2.2.1 < 0 then pr else if (mMs true tx ln Rw Cl 61 (0, r, f, 0, iC, iR)).2.2.2.1 < 0 then pr else mRecP pr (mCp r br 592) st) ar (if (mMs false tx ln Rw Cl 61 (0, r, f, 0, iC, iR)).2.2.2.1 < 0 then br else if (mMs true tx ln Rw Cl 61 (0, r, f, 0, iC, iR)).2.2.2.1 < 0 then mCp r br 592 else mCp r br 592) (if (mMs false tx ln Rw Cl 61 (0, r, f, 0, iC, iR)).2.2.2.1 < 0 then f else if (mMs true tx ln Rw Cl 61 (0, r, f, 0, iC, iR)).2.2.2.1 < 0 then mCf (mCf f bf 7) (mMs true tx ln Rw Cl 61 (0, r, f, 0, iC, iR)).2.2.1 7 else (mMs true tx ln Rw Cl 61 (0, r, f, 0, iC, iR)).2.2.1) (if (mMs false tx ln Rw Cl 61 (0, r, f, 0, iC, iR)).2.2.2.1 < 0 then pf else if (mMs true tx ln Rw Cl 61 (0, r, f, 0, iC, iR)).2.2.2.1 < 0 then pf else mRecF pf (mCf f bf 7) st) af (if (mMs false tx ln Rw Cl 61 (0, r, f, 0, iC, iR)).2.2.2.1 < 0 then bf else if (mMs true tx ln Rw Cl 61 (0, r, f, 0, iC, iR)).2.2.2.1 < 0 then mCf f bf 7 else mCf f bf 7) tx) (mW G ad (nI st) iA (nI ln) iT iC iR r pr ar br f pf af bf tx) sz) 0 0 (va_A (mW G ad (nI st) iA (nI ln) iT iC iR r pr ar br f pf af bf tx) sz) := by
  refine Met.ofW (cc := cX5_perform) (maxL := 2) (ret := (some .int)) (by decide) rfl ?_
  intro p e s m args below meth c s₁ B hml hv
  obtain ⟨rfl, ⟨hsz, hP, hD0, hX⟩, hE⟩ := hv
  have hx := B.exec
  have hb := B.bytes
  have hr := B.returns
  have hts := atoms_spec (ws := ws_ yX5_perform cX5_perform 2 (some .int)) B.pre
  have hts : ∀ w ∈ lw_all, w.before _ s = true := fun w h => hts w (List.mem_cons_of_mem _ h)
  have hown : s.vm.findClass RX5 = some m.cls := findClass_of_methodNamed B.named
  have hlocks := B.notSynchronized
  subst hsz
  have hD := hD0.self (sz := s.heap.size)
  have hA : ∀ q : Nat, s.heap.size ≤ q → va_A (mW G ad (nI st) iA (nI ln) iT iC iR r pr ar br f pf af bf tx) s.heap.size q := fun q h => Or.inr h
  have hl := lv_entry ([.ref (ad 0)]) (n := 2) (Nat.le_of_ble_eq_true rfl)
  rw [lg_entry_eq]
  generalize (lg_sl ([.ref (ad 0)]) ++ List.replicate (2 - (lg_sl ([.ref (ad 0)])).length) Slot.unset).toArray = ls at hl ⊢
  replace hl : lv_has ls 2 [(0, .ref (ad 0))] := hl
  refine ol_start (A := va_A (mW G ad (nI st) iA (nI ln) iT iC iR r pr ar br f pf af bf tx) s.heap.size) (fun H locs hH hS => ?_)
  rw [← hH] at hP
  clear hH
  refine lv_aload_n hx hb dX5_perform_0 rfl (lv_at hl 0 rfl) ?_
  refine lv_iconst (v := 0) hx hb dX5_perform_1 (by decide) ?_
  refine ol_cM (st1 := [.int ((mMs false tx ln Rw Cl 61 (0, r, f, 0, iC, iR)).2.2.2.1)]) (va_runV (As := [.int 0]) (rest := []) ⟨hx, hb, hml, hown, hts⟩ (mm_moves l G ad (nI st) iA ln iT iC iR r pr ar br f pf af bf tx false Rw Cl h60 (mMsOK_no 61 (0, r, f, 0, iC, iR) hg) H.size) (cwV 1 hts (lw_V q1363 q1365 qs48 q73 q1366) rfl rfl rfl (by decide +kernel) ⟨Nat.le_of_ble_eq_true rfl, Nat.le_of_ble_eq_true rfl⟩) (oPc.preV hE (hE.recv (ci := 12) (hP 0 _ rfl) rfl) ⟨rfl, hP, oD_weak hD (fun _ _ => trivial), trivial⟩) rfl rfl hl.1 rfl (lv_room (Nat.le_of_ble_eq_true rfl)) dX5_perform_2 ⟨Nat.le_of_ble_eq_true rfl, Nat.le_of_ble_eq_true rfl⟩) hP hD hS hA rfl (fun H locs hP hD hS => ?_)
  obtain ⟨hn1, hn2, hn3⟩ := mMs_no tx ln Rw Cl 61 (0, r, f, 0, iC, iR)
  have hn4 := congrArg Prod.fst hn3
  have hn5 := congrArg Prod.snd hn3
  replace hP : va_P G.1 cl0 (mW G ad (nI st) iA (nI ln) (nI (mMs false tx ln Rw Cl 61 (0, r, f, 0, iC, iR)).1) iC iR r pr ar br f pf af bf tx) H := by rw [hn1, hn2, hn4, hn5] at hP; exact hP
  replace hD : va_D (va_A (mW G ad (nI st) iA (nI ln) iT iC iR r pr ar br f pf af bf tx) s.heap.size) (mW G ad (nI st) iA (nI ln) (nI (mMs false tx ln Rw Cl 61 (0, r, f, 0, iC, iR)).1) iC iR r pr ar br f pf af bf tx) := mD_any hD
  refine lv_if_ge (tgt := 16) hx hb dX5_perform_5 (by decide) (fun c_5 => ?_) (fun c_5 => ?_)
  · refine lv_aload_n hx hb dX5_perform_16 rfl (lv_at hl 0 rfl) ?_
    refine ol_cM (st1 := []) (va_runV (As := []) (rest := []) ⟨hx, hb, hml, hown, hts⟩ (mm_remember l G ad (nI st) iA (nI ln) (nI (mMs false tx ln Rw Cl 61 (0, r, f, 0, iC, iR)).1) iC iR r pr ar br f pf af bf tx H.size) (cwV 0 hts (lw_V q1198 q1200 qs23 q73 q1201) rfl rfl rfl (by decide +kernel) ⟨Nat.le_of_ble_eq_true rfl, Nat.le_of_ble_eq_true rfl⟩) (oPc.preV hE (hE.recv (ci := 12) (hP 0 _ rfl) rfl) ⟨rfl, hP, oD_weak hD (fun _ _ => trivial), trivial⟩) rfl rfl hl.1 rfl (lv_room (Nat.le_of_ble_eq_true rfl)) dX5_perform_17 ⟨Nat.le_of_ble_eq_true rfl, Nat.le_of_ble_eq_true rfl⟩) hP hD hS hA rfl (fun H locs hP hD hS => ?_)
    refine lv_aload_n hx hb dX5_perform_20 rfl (lv_at hl 0 rfl) ?_
    refine lv_iconst (v := 1) hx hb dX5_perform_21 (by decide) ?_
    refine ol_cM (st1 := [.int ((mMs true tx ln Rw Cl 61 (0, r, f, 0, iC, iR)).2.2.2.1)]) (va_runV (As := [.int 1]) (rest := []) ⟨hx, hb, hml, hown, hts⟩ (mm_moves l G ad (nI st) iA ln (nI (mMs false tx ln Rw Cl 61 (0, r, f, 0, iC, iR)).1) iC iR r pr ar (mCp r br 592) f pf af (mCf f bf 7) tx true Rw Cl h60 hok H.size) (cwV 1 hts (lw_V q1363 q1365 qs48 q73 q1366) rfl rfl rfl (by decide +kernel) ⟨Nat.le_of_ble_eq_true rfl, Nat.le_of_ble_eq_true rfl⟩) (oPc.preV hE (hE.recv (ci := 12) (hP 0 _ rfl) rfl) ⟨rfl, hP, oD_weak hD (fun _ _ => trivial), trivial⟩) rfl rfl hl.1 rfl (lv_room (Nat.le_of_ble_eq_true rfl)) dX5_perform_22 ⟨Nat.le_of_ble_eq_true rfl, Nat.le_of_ble_eq_true rfl⟩) hP hD hS hA rfl (fun H locs hP hD hS => ?_)
    refine lv_istore_n (lv' := [(1, .int ((mMs true tx ln Rw Cl 61 (0, r, f, 0, iC, iR)).2.2.2.1)), (0, .ref (ad 0))]) hx hb dX5_perform_25 rfl hl (by decide) rfl (fun ls hl => ?_)
    refine lv_iload_n hx hb dX5_perform_26 rfl (lv_at hl 0 rfl) ?_
    refine lv_if_ge (tgt := 36) hx hb dX5_perform_27 (by decide) (fun c_27 => ?_) (fun c_27 => ?_)
    · refine lv_aload_n hx hb dX5_perform_36 rfl (lv_at hl 1 rfl) ?_
      refine ol_cM (st1 := []) (va_runV (As := []) (rest := []) ⟨hx, hb, hml, hown, hts⟩ (mm_record l G ad st iA (nI ln) (nI (mMs true tx ln Rw Cl 61 (0, r, f, 0, iC, iR)).1) ((mMs true tx ln Rw Cl 61 (0, r, f, 0, iC, iR)).2.2.2.2.1) ((mMs true tx ln Rw Cl 61 (0, r, f, 0, iC, iR)).2.2.2.2.2) ((mMs true tx ln Rw Cl 61 (0, r, f, 0, iC, iR)).2.1) pr ar (mCp r br 592) ((mMs true tx ln Rw Cl 61 (0, r, f, 0, iC, iR)).2.2.1) pf af (mCf f bf 7) tx (by omega) H.size) (cwV 0 hts (lw_V q1202 q1204 qs24 q73 q1205) rfl rfl rfl (by decide +kernel) ⟨Nat.le_of_ble_eq_true rfl, Nat.le_of_ble_eq_true rfl⟩) (oPc.preV hE (hE.recv (ci := 12) (hP 0 _ rfl) rfl) ⟨rfl, hP, oD_weak hD (fun _ _ => trivial), trivial⟩) rfl rfl hl.1 rfl (lv_room (Nat.le_of_ble_eq_true rfl)) dX5_perform_37 ⟨Nat.le_of_ble_eq_true rfl, Nat.le_of_ble_eq_true rfl⟩) hP hD hS hA rfl (fun H locs hP hD hS => ?_)
      refine lv_iload_n hx hb dX5_perform_40 rfl (lv_at hl 0 rfl) ?_
      exact ol_iretE hx hb hr hlocks ⟨congrArg (fun z => some (Value.int z)) (by simp only [if_neg (Int32.not_lt.mpr c_5), if_neg (Int32.not_lt.mpr c_27)]), (by simp only [if_neg (Int32.not_lt.mpr c_5), if_neg (Int32.not_lt.mpr c_27)])⟩ hP hD hS dX5_perform_41
    · refine lv_aload_n hx hb dX5_perform_30 rfl (lv_at hl 1 rfl) ?_
      refine ol_cM (st1 := []) (va_runV (As := []) (rest := []) ⟨hx, hb, hml, hown, hts⟩ (mm_goBack l G ad (nI st) iA (nI ln) (nI (mMs true tx ln Rw Cl 61 (0, r, f, 0, iC, iR)).1) ((mMs true tx ln Rw Cl 61 (0, r, f, 0, iC, iR)).2.2.2.2.1) ((mMs true tx ln Rw Cl 61 (0, r, f, 0, iC, iR)).2.2.2.2.2) ((mMs true tx ln Rw Cl 61 (0, r, f, 0, iC, iR)).2.1) pr ar (mCp r br 592) ((mMs true tx ln Rw Cl 61 (0, r, f, 0, iC, iR)).2.2.1) pf af (mCf f bf 7) tx H.size) (cwV 0 hts (lw_V q1379 q1381 qs52 q73 q1382) rfl rfl rfl (by decide +kernel) ⟨Nat.le_of_ble_eq_true rfl, Nat.le_of_ble_eq_true rfl⟩) (oPc.preV hE (hE.recv (ci := 12) (hP 0 _ rfl) rfl) ⟨rfl, hP, oD_weak hD (fun _ _ => trivial), trivial⟩) rfl rfl hl.1 rfl (lv_room (Nat.le_of_ble_eq_true rfl)) dX5_perform_31 ⟨Nat.le_of_ble_eq_true rfl, Nat.le_of_ble_eq_true rfl⟩) hP hD hS hA rfl (fun H locs hP hD hS => ?_)
      refine lv_iload_n hx hb dX5_perform_34 rfl (lv_at hl 0 rfl) ?_
      exact ol_iretE hx hb hr hlocks ⟨congrArg (fun z => some (Value.int z)) (by simp only [if_neg (Int32.not_lt.mpr c_5), if_pos (Int32.not_le.mp c_27)]), (by simp only [if_neg (Int32.not_lt.mpr c_5), if_pos (Int32.not_le.mp c_27)])⟩ hP hD hS dX5_perform_35
  · refine lv_bipush (v := (-100)) hx hb dX5_perform_8 (by decide) ?_
    refine lv_aload_n hx hb dX5_perform_10 rfl (lv_at hl 0 rfl) ?_
    refine va_get (D := G.1) (ci := 12) (v := .int (nI (mMs false tx ln Rw Cl 61 (0, r, f, 0, iC, iR)).1)) (C := RX5) (T := TX5) (N := 15) hx hb hts in_X5 hown hE.1 hP 0 rfl rfl 12 (by decide) (hts _ q1147) (fun _ h9 => h9) rfl dX5_perform_11 ?_
    refine lv_isub hx hb dX5_perform_14 ?_
    exact ol_iretE hx hb hr hlocks ⟨congrArg (fun z => some (Value.int z)) (by simp only [if_pos (Int32.not_le.mp c_5)]), (by simp only [if_pos (Int32.not_le.mp c_5)])⟩ hP hD hS dX5_perform_15
