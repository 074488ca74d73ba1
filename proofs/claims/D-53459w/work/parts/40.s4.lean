/-! THE COMPONENT's STATE: what becomes of a stroke -/
theorem mSh_c (r : Nat → Int32) (k : Int32) : mSh r k = 0 ∨ mSh r k = 1 ∨ mSh r k = -5 := by
  unfold mSh; split
  · exact Or.inl rfl
  · split
    · exact Or.inr (Or.inl rfl)
    · exact Or.inr (Or.inr rfl)
/-- no comparison at key k meets a NaN -/
def sFc (r : Nat → Int32) (f : Nat → UInt32) (k : Nat) : Prop :=
  (∀ q, q < 2 → Op.cmpValue (FP.fcmp (mOff r f q (r (68 + k)) (r 2 - r (68 + k))) (f 5)) .l = Op.cmpValue (FP.fcmp (mOff r f q (r (68 + k)) (r 2 - r (68 + k))) (f 5)) .g) ∧
  Op.cmpValue (FP.fcmp (fsz (FP.fsub (mOff r f 0 (r (68 + k)) (r 2 - r (68 + k))) (mOff r f 1 (r (68 + k)) (r 2 - r (68 + k))))) (f 4)) .l = Op.cmpValue (FP.fcmp (fsz (FP.fsub (mOff r f 0 (r (68 + k)) (r 2 - r (68 + k))) (mOff r f 1 (r (68 + k)) (r 2 - r (68 + k))))) (f 4)) .g
set_option maxHeartbeats 4000000 in
set_option maxRecDepth 100000 in
theorem cr_verdict (l : Launch) (G : oG) (Z : oZ) (γ : Nat → Nat) (X : Nat → Nat → Option Nat) (E : Nat → Nat → Nat) (r : Nat → Int32) (f : Nat → UInt32) (Rw Cl : Nat) (k : Nat) (hg : mG r Rw Cl) (hsk : sK γ X E (Rw * Cl)) (hk : k < Rw * Cl) (hsi : sI r (Rw * Cl)) (hm : mFo f) (hla : ∀ q, q < 2 → oNg (r (3 + q))) (hx0 : ¬ r (68 + k) < 0) (hfc : sFc r f k) (hr16 : ¬ r 16 < 0) : Met l yX1_verdict (ws_ yX1_verdict cX1_verdict 6 (some .int)) ({ frames := 4, cells := 0, slots := 0, locals := 79 }) (oPc1 G Z [.ref (γ 0), .ref (E 0 k), .int (r 2 - r (68 + k))] (fun H => sR G γ X E r f (Rw * Cl) H)) (oR (some (.int (mJd r f k)))) 0 0 (fun _ => False) := by
  refine Met.ofW (cc := cX1_verdict) (maxL := 6) (ret := (some .int)) (by decide) rfl ?_
  intro p e s m args below meth c s₁ B hml hv
  obtain ⟨rfl, hP, hE⟩ := hv
  have hx := B.exec
  have hb := B.bytes
  have hr := B.returns
  have hts := atoms_spec (ws := ws_ yX1_verdict cX1_verdict 6 (some .int)) B.pre
  have hts : ∀ w ∈ lw_all, w.before _ s = true := fun w h => hts w (List.mem_cons_of_mem _ h)
  have hown : s.vm.findClass RX1 = some m.cls := findClass_of_methodNamed B.named
  have hlocks := B.notSynchronized
  have hl := lv_entry ([.ref (γ 0), .ref (E 0 k), .int (r 2 - r (68 + k))]) (n := 6) (Nat.le_of_ble_eq_true rfl)
  rw [lg_entry_eq]
  generalize (lg_sl ([.ref (γ 0), .ref (E 0 k), .int (r 2 - r (68 + k))]) ++ List.replicate (6 - (lg_sl ([.ref (γ 0), .ref (E 0 k), .int (r 2 - r (68 + k))])).length) Slot.unset).toArray = ls at hl ⊢
  replace hl : lv_has ls 6 [(0, .ref (γ 0)), (1, .ref (E 0 k)), (2, .int (r 2 - r (68 + k)))] := hl
  have hgn := mG_n hg
  have hg' := hg
  obtain ⟨hg0, hg1, hg2, hg3, hg4, hg5⟩ := hg'
  obtain ⟨hF, hK⟩ := hP
  have hsk1 := hsk
  obtain ⟨hk1, hk2, hk3, hk4⟩ := hsk1
  refine lv_aload_n hx hb dX1_verdict_0 rfl (lv_at hl 1 rfl) ?_
  refine va_getN (D := G.1) (ci := 4) (v := .int (mSh r (nI k))) (C := RX4) (T := TX4) (N := 7) hx hb hts in_X4 hown hE.1.1 (oP_1 (hK k (by omega))) 0 rfl rfl 1 (by decide) (va_Nw.use rfl (hE.1.2.1 _ q362 rfl)) (fun _ h9 => h9) rfl dX1_verdict_1 ?_
  refine lv_bipush (v := (-5)) hx hb dX1_verdict_4 (by decide) ?_
  refine lv_icmp_eq (tgt := 25) hx hb dX1_verdict_6 (by decide) (fun c_6 => ?_) (fun c_6 => ?_)
  · have hs0 : mSh r (nI k) < 0 := by rw [c_6]; decide
    refine lv_aload_n hx hb dX1_verdict_25 rfl (lv_at hl 0 rfl) ?_
    refine lv_aload_n hx hb dX1_verdict_26 rfl (lv_at hl 1 rfl) ?_
    refine va_getN (D := G.1) (ci := 4) (v := .int (r (68 + k))) (C := RX4) (T := TX4) (N := 7) hx hb hts in_X4 hown hE.1.1 (oP_1 (hK k (by omega))) 0 rfl rfl 3 (by decide) (va_Nw.use rfl (hE.1.2.1 _ q368 rfl)) (fun _ h9 => h9) rfl dX1_verdict_27 ?_
    refine lv_iload_n hx hb dX1_verdict_30 rfl (lv_at hl 2 rfl) ?_
    refine ol_cR (st1 := [.int (zB (flt (mOff r f 1 (r (68 + k)) (r 2 - r (68 + k))) (mOff r f 0 (r (68 + k)) (r 2 - r (68 + k)))))]) (va_runV (As := [.int (r (68 + k)), .int (r 2 - r (68 + k))]) (rest := []) ⟨hx, hb, hml, hown, hts⟩ (cr_nearest l G Z γ X E r f Rw Cl (r (68 + k)) (r 2 - r (68 + k)) hg hsk hm hla hx0) (cwV 2 hts (lw_V q609 q611 qs8 q58 q612) rfl rfl rfl (by decide +kernel) ⟨Nat.le_of_ble_eq_true rfl, Nat.le_of_ble_eq_true rfl⟩) (oPc1.preV hE (hE.1.recv (ci := 1) (hF 0 _ rfl) rfl) ⟨hF, hK⟩) rfl rfl hl.1 rfl (lv_room (Nat.le_of_ble_eq_true rfl)) dX1_verdict_31 ⟨Nat.le_of_ble_eq_true rfl, Nat.le_of_ble_eq_true rfl⟩) rfl ?_
    rcases Bool.eq_false_or_eq_true (flt (mOff r f 1 (r (68 + k)) (r 2 - r (68 + k))) (mOff r f 0 (r (68 + k)) (r 2 - r (68 + k)))) with hn | hn
    · refine ol_top (y := nI 1) (by rw [hn]; rfl) ?_
      refine lv_istore_n (lv' := [(3, .int (nI 1)), (0, .ref (γ 0)), (1, .ref (E 0 k)), (2, .int (r 2 - r (68 + k)))]) hx hb dX1_verdict_34 rfl hl (by decide) rfl (fun ls hl => ?_)
      refine lv_aload_n hx hb dX1_verdict_35 rfl (lv_at hl 1 rfl) ?_
      refine va_get (D := G.1) (ci := 1) (v := .ref (γ 31)) (C := RX1) (T := TX1) (N := 16) hx hb hts in_X1 hown hE.1.1 hF 0 rfl rfl 8 (by decide) (hts _ q255) (fun _ h9 => h9) rfl dX1_verdict_36 ?_
      refine lv_iload_n hx hb dX1_verdict_39 rfl (lv_at hl 0 rfl) ?_
      refine ol_aald hx hb hE.1.1 hF 16 6 rfl rfl 1 (by decide) (by omega) rfl dX1_verdict_40 ?_
      refine lv_aload_n hx hb dX1_verdict_41 rfl (lv_at hl 2 rfl) ?_
      refine va_getN (D := G.1) (ci := 4) (v := .int (r (68 + k))) (C := RX4) (T := TX4) (N := 7) hx hb hts in_X4 hown hE.1.1 (oP_1 (hK k (by omega))) 0 rfl rfl 3 (by decide) (va_Nw.use rfl (hE.1.2.1 _ q368 rfl)) (fun _ h9 => h9) rfl dX1_verdict_42 ?_
      refine lv_iload_n hx hb dX1_verdict_45 rfl (lv_at hl 3 rfl) ?_
      refine ol_cR (st1 := [.float (cDist (f 1) (f 3) (r 4) (r (68 + k)) (r 2 - r (68 + k)))]) (va_runV (As := [.int (r (68 + k)), .int (r 2 - r (68 + k))]) (rest := []) ⟨hx, hb, hml, hown, hts⟩ (cr_distance l G (γ 34) (f 1) (f 3) (r 4) (r (68 + k)) (r 2 - r (68 + k)) (hm 1 (by omega)).1 (hm 1 (by omega)).2) (cwV 2 hts (lw_V q613 q614 q615 q63 q616) rfl rfl rfl (by decide +kernel) ⟨Nat.le_of_ble_eq_true rfl, Nat.le_of_ble_eq_true rfl⟩) (oPc.preV hE.1 (hE.1.recv (ci := 3) (hF 19 _ rfl) rfl) (hF.sub [19] rfl)) rfl rfl hl.1 rfl (lv_room (Nat.le_of_ble_eq_true rfl)) dX1_verdict_46 ⟨Nat.le_of_ble_eq_true rfl, Nat.le_of_ble_eq_true rfl⟩) rfl ?_
      refine ol_topf (y := mOff r f 1 (r (68 + k)) (r 2 - r (68 + k))) (cDist_off (q := 1) (hla 1 (by omega)) hx0) ?_
      refine lv_fstore (lv' := [(4, .float (mOff r f 1 (r (68 + k)) (r 2 - r (68 + k)))), (3, .int (nI 1)), (0, .ref (γ 0)), (1, .ref (E 0 k)), (2, .int (r 2 - r (68 + k)))]) hx hb dX1_verdict_49 hl (by decide) rfl (fun ls hl => ?_)
      refine lv_aload_n hx hb dX1_verdict_51 rfl (lv_at hl 3 rfl) ?_
      refine va_getN (D := G.1) (ci := 4) (v := .int (r (116 + k))) (C := RX4) (T := TX4) (N := 7) hx hb hts in_X4 hown hE.1.1 (oP_1 (hK k (by omega))) 0 rfl rfl 4 (by decide) (va_Nw.use rfl (hE.1.2.1 _ q371 rfl)) (fun _ h9 => h9) rfl dX1_verdict_52 ?_
      refine lv_if_eq (tgt := 76) hx hb dX1_verdict_55 (by decide) (fun c_55 => ?_) (fun c_55 => ?_)
      · have hdb : ¬ r (116 + k) = 1 := by rw [c_55]; decide
        refine lv_aload_n hx hb dX1_verdict_76 rfl (lv_at hl 2 rfl) ?_
        refine va_get (D := G.1) (ci := 1) (v := .ref (γ 31)) (C := RX1) (T := TX1) (N := 16) hx hb hts in_X1 hown hE.1.1 hF 0 rfl rfl 8 (by decide) (hts _ q255) (fun _ h9 => h9) rfl dX1_verdict_77 ?_
        refine lv_iconst (v := 0) hx hb dX1_verdict_80 (by decide) ?_
        refine ol_aald hx hb hE.1.1 hF 16 6 rfl rfl 0 (by decide) (by omega) rfl dX1_verdict_81 ?_
        refine lv_aload_n hx hb dX1_verdict_82 rfl (lv_at hl 3 rfl) ?_
        refine va_getN (D := G.1) (ci := 4) (v := .int (r (68 + k))) (C := RX4) (T := TX4) (N := 7) hx hb hts in_X4 hown hE.1.1 (oP_1 (hK k (by omega))) 0 rfl rfl 3 (by decide) (va_Nw.use rfl (hE.1.2.1 _ q368 rfl)) (fun _ h9 => h9) rfl dX1_verdict_83 ?_
        refine lv_iload_n hx hb dX1_verdict_86 rfl (lv_at hl 4 rfl) ?_
        refine ol_cR (st1 := [.float (cDist (f 0) (f 2) (r 3) (r (68 + k)) (r 2 - r (68 + k)))]) (va_runV (As := [.int (r (68 + k)), .int (r 2 - r (68 + k))]) (rest := []) ⟨hx, hb, hml, hown, hts⟩ (cr_distance l G (γ 33) (f 0) (f 2) (r 3) (r (68 + k)) (r 2 - r (68 + k)) (hm 0 (by omega)).1 (hm 0 (by omega)).2) (cwV 2 hts (lw_V q613 q614 q615 q63 q616) rfl rfl rfl (by decide +kernel) ⟨Nat.le_of_ble_eq_true rfl, Nat.le_of_ble_eq_true rfl⟩) (oPc.preV hE.1 (hE.1.recv (ci := 3) (hF 18 _ rfl) rfl) (hF.sub [18] rfl)) rfl rfl hl.1 rfl (lv_room (Nat.le_of_ble_eq_true rfl)) dX1_verdict_87 ⟨Nat.le_of_ble_eq_true rfl, Nat.le_of_ble_eq_true rfl⟩) rfl ?_
        refine ol_topf (y := mOff r f 0 (r (68 + k)) (r 2 - r (68 + k))) (cDist_off (q := 0) (hla 0 (by omega)) hx0) ?_
        refine lv_aload_n hx hb dX1_verdict_90 rfl (lv_at hl 2 rfl) ?_
        refine va_get (D := G.1) (ci := 1) (v := .ref (γ 31)) (C := RX1) (T := TX1) (N := 16) hx hb hts in_X1 hown hE.1.1 hF 0 rfl rfl 8 (by decide) (hts _ q255) (fun _ h9 => h9) rfl dX1_verdict_91 ?_
        refine lv_iconst (v := 1) hx hb dX1_verdict_94 (by decide) ?_
        refine ol_aald hx hb hE.1.1 hF 16 6 rfl rfl 1 (by decide) (by omega) rfl dX1_verdict_95 ?_
        refine lv_aload_n hx hb dX1_verdict_96 rfl (lv_at hl 3 rfl) ?_
        refine va_getN (D := G.1) (ci := 4) (v := .int (r (68 + k))) (C := RX4) (T := TX4) (N := 7) hx hb hts in_X4 hown hE.1.1 (oP_1 (hK k (by omega))) 0 rfl rfl 3 (by decide) (va_Nw.use rfl (hE.1.2.1 _ q368 rfl)) (fun _ h9 => h9) rfl dX1_verdict_97 ?_
        refine lv_iload_n hx hb dX1_verdict_100 rfl (lv_at hl 4 rfl) ?_
        refine ol_cR (st1 := [.float (cDist (f 1) (f 3) (r 4) (r (68 + k)) (r 2 - r (68 + k))), .float (mOff r f 0 (r (68 + k)) (r 2 - r (68 + k)))]) (va_runV (As := [.int (r (68 + k)), .int (r 2 - r (68 + k))]) (rest := [.float (mOff r f 0 (r (68 + k)) (r 2 - r (68 + k)))]) ⟨hx, hb, hml, hown, hts⟩ (cr_distance l G (γ 34) (f 1) (f 3) (r 4) (r (68 + k)) (r 2 - r (68 + k)) (hm 1 (by omega)).1 (hm 1 (by omega)).2) (cwV 2 hts (lw_V q613 q614 q615 q63 q616) rfl rfl rfl (by decide +kernel) ⟨Nat.le_of_ble_eq_true rfl, Nat.le_of_ble_eq_true rfl⟩) (oPc.preV hE.1 (hE.1.recv (ci := 3) (hF 19 _ rfl) rfl) (hF.sub [19] rfl)) rfl rfl hl.1 rfl (lv_room (Nat.le_of_ble_eq_true rfl)) dX1_verdict_101 ⟨Nat.le_of_ble_eq_true rfl, Nat.le_of_ble_eq_true rfl⟩) rfl ?_
        refine ol_topf (y := mOff r f 1 (r (68 + k)) (r 2 - r (68 + k))) (cDist_off (q := 1) (hla 1 (by omega)) hx0) ?_
        refine lv_fsub hx hb dX1_verdict_104 (fk_diff _ _ _ _ (hm 0 (by omega)).1 (hm 0 (by omega)).2 (hm 1 (by omega)).1 (hm 1 (by omega)).2) ?_
        refine ol_cR (st1 := [.float (fsz (FP.fsub (mOff r f 0 (r (68 + k)) (r 2 - r (68 + k))) (mOff r f 1 (r (68 + k)) (r 2 - r (68 + k)))))]) (va_runSN (As := [.float (FP.fsub (mOff r f 0 (r (68 + k)) (r 2 - r (68 + k))) (mOff r f 1 (r (68 + k)) (r 2 - r (68 + k))))]) (rest := []) ⟨hx, hb, hml, hown, hts⟩ (cr_size l G (FP.fsub (mOff r f 0 (r (68 + k)) (r 2 - r (68 + k))) (mOff r f 1 (r (68 + k)) (r 2 - r (68 + k)))) ) ⟨va_cnB 1 hts (lw_meth q619) rfl rfl rfl (hE.1.2.1 _ q628 rfl) (hts _ q57) (by decide +kernel) ⟨Nat.le_of_ble_eq_true rfl, Nat.le_of_ble_eq_true rfl⟩, hts _ q618, trivial⟩ (oPc.preS hE.1 trivial) rfl rfl hl.1 rfl (lv_room (Nat.le_of_ble_eq_true rfl)) dX1_verdict_105 ⟨Nat.le_of_ble_eq_true rfl, Nat.le_of_ble_eq_true rfl⟩) rfl ?_
        refine lv_fstore (lv' := [(5, .float (fsz (FP.fsub (mOff r f 0 (r (68 + k)) (r 2 - r (68 + k))) (mOff r f 1 (r (68 + k)) (r 2 - r (68 + k)))))), (4, .float (mOff r f 1 (r (68 + k)) (r 2 - r (68 + k)))), (3, .int (nI 1)), (0, .ref (γ 0)), (1, .ref (E 0 k)), (2, .int (r 2 - r (68 + k)))]) hx hb dX1_verdict_108 hl (by decide) rfl (fun ls hl => ?_)
        refine lv_fload hx hb dX1_verdict_110 (lv_at hl 0 rfl) ?_
        refine lv_aload_n hx hb dX1_verdict_112 rfl (lv_at hl 3 rfl) ?_
        refine va_get (D := G.1) (ci := 1) (v := .ref (γ 32)) (C := RX1) (T := TX1) (N := 16) hx hb hts in_X1 hown hE.1.1 hF 0 rfl rfl 9 (by decide) (hts _ q257) (fun _ h9 => h9) rfl dX1_verdict_113 ?_
        refine lv_iconst (v := 0) hx hb dX1_verdict_116 (by decide) ?_
        refine ol_fald hx hb hE.1.1 hF 17 2 rfl rfl 0 (by decide) (by decide) dX1_verdict_117 ?_
        refine ol_topf (y := f 4) rfl ?_
        refine lv_fcmp hx hb dX1_verdict_118 ?_
        refine lv_if_lt (tgt := 124) hx hb dX1_verdict_119 (by decide) (fun c_119 => ?_) (fun c_119 => ?_)
        · have hma : flt (fsz (FP.fsub (mOff r f 0 (r (68 + k)) (r 2 - r (68 + k))) (mOff r f 1 (r (68 + k)) (r 2 - r (68 + k))))) (f 4) = true := by unfold flt; rw [← hfc.2]; simp [Int32.not_le.mpr c_119]
          refine lv_aload_n hx hb dX1_verdict_124 rfl (lv_at hl 3 rfl) ?_
          refine va_get (D := G.1) (ci := 1) (v := .ref (γ 5)) (C := RX1) (T := TX1) (N := 16) hx hb hts in_X1 hown hE.1.1 hF 0 rfl rfl 1 (by decide) (hts _ q241) (fun _ h9 => h9) rfl dX1_verdict_125 ?_
          refine ol_cF5 (st1 := [.int (nI (cN (r 16)))]) (va_runF (As := []) (rest := []) (hE.1.1.1 9 _ rfl).2 ⟨hx, hb, hml, hown, hts⟩ (jr_size l G (γ 5) (γ 6) (cN (r 16)) (nI (γ 8))) (va_cwF 0 hts (lw_F q456 q416 q418 q61 q420) rfl rfl rfl (hE.2.1 _ (List.mem_of_getElem? (i := 2) rfl)) (by decide +kernel) ⟨Nat.le_of_ble_eq_true rfl, Nat.le_of_ble_eq_true rfl⟩) (oPc.preV hE.1 (hE.1.recv (ci := 9) (hF 3 _ rfl) rfl) (hF.sub [3] rfl)) rfl rfl hl.1 rfl (lv_room (Nat.le_of_ble_eq_true rfl)) dX1_verdict_128 ⟨Nat.le_of_ble_eq_true rfl, Nat.le_of_ble_eq_true rfl⟩) rfl ?_
          refine lv_bipush (v := 20) hx hb dX1_verdict_133 (by decide) ?_
          obtain ⟨h16, h16b⟩ := nn_of hr16
          refine ol_icmp_ne hx hb (cN (r 16)) 20 (by omega) (by omega) (tgt := 142) dX1_verdict_135 (by decide) (fun c_135 => ?_) (fun c_135 => ?_)
          · have hfu : ¬ r 16 = 20 := fun e => c_135 (by rw [e]; rfl)
            refine lv_iconst (v := 3) hx hb dX1_verdict_142 (by decide) ?_
            exact ol_iretR hx hb hr hlocks rfl (by unfold mJd; simp [hs0, hn, hdb, hma, hfu]; try rfl) dX1_verdict_143
          · have hfu : r 16 = 20 := by rw [h16, show cN (r 16) = 20 by omega]; rfl
            refine lv_iconst (v := 2) hx hb dX1_verdict_138 (by decide) ?_
            refine lv_goto (tgt := 143) hx hb dX1_verdict_139 (by decide) ?_
            exact ol_iretR hx hb hr hlocks rfl (by unfold mJd; simp [hs0, hn, hdb, hma, hfu]; try rfl) dX1_verdict_143
        · have hma : flt (fsz (FP.fsub (mOff r f 0 (r (68 + k)) (r 2 - r (68 + k))) (mOff r f 1 (r (68 + k)) (r 2 - r (68 + k))))) (f 4) = false := by unfold flt; rw [← hfc.2]; simp [Int32.not_lt.mp c_119]
          refine lv_iload_n hx hb dX1_verdict_122 rfl (lv_at hl 2 rfl) ?_
          exact ol_iretR hx hb hr hlocks rfl (by unfold mJd; simp [hs0, hn, hdb, hma]; try rfl) dX1_verdict_123
      · have hdb : r (116 + k) = 1 := ((hsi k hk).2.2.2).resolve_left c_55
        refine lv_fload hx hb dX1_verdict_58 (lv_at hl 0 rfl) ?_
        refine lv_aload_n hx hb dX1_verdict_60 rfl (lv_at hl 2 rfl) ?_
        refine va_get (D := G.1) (ci := 1) (v := .ref (γ 32)) (C := RX1) (T := TX1) (N := 16) hx hb hts in_X1 hown hE.1.1 hF 0 rfl rfl 9 (by decide) (hts _ q257) (fun _ h9 => h9) rfl dX1_verdict_61 ?_
        refine lv_iconst (v := 1) hx hb dX1_verdict_64 (by decide) ?_
        refine ol_fald hx hb hE.1.1 hF 17 2 rfl rfl 1 (by decide) (by decide) dX1_verdict_65 ?_
        refine ol_topf (y := f 5) rfl ?_
        refine lv_fcmp hx hb dX1_verdict_66 ?_
        refine lv_if_le (tgt := 74) hx hb dX1_verdict_67 (by decide) (fun c_67 => ?_) (fun c_67 => ?_)
        · have hfl : fle (mOff r f 1 (r (68 + k)) (r 2 - r (68 + k))) (f 5) = true := by unfold fle; rw [← hfc.1 1 (by omega)]; simp [Int32.not_lt.mpr c_67]
          refine lv_iload_n hx hb dX1_verdict_74 rfl (lv_at hl 1 rfl) ?_
          exact ol_iretR hx hb hr hlocks rfl (by unfold mJd; simp [hs0, hn, hdb, hfl]; try rfl) dX1_verdict_75
        · have hfl : fle (mOff r f 1 (r (68 + k)) (r 2 - r (68 + k))) (f 5) = false := by unfold fle; rw [← hfc.1 1 (by omega)]; simp [Int32.not_le.mp c_67]
          refine lv_iconst (v := 2) hx hb dX1_verdict_70 (by decide) ?_
          refine lv_goto (tgt := 75) hx hb dX1_verdict_71 (by decide) ?_
          exact ol_iretR hx hb hr hlocks rfl (by unfold mJd; simp [hs0, hn, hdb, hfl]; try rfl) dX1_verdict_75
    · refine ol_top (y := nI 0) (by rw [hn]; rfl) ?_
      refine lv_istore_n (lv' := [(3, .int (nI 0)), (0, .ref (γ 0)), (1, .ref (E 0 k)), (2, .int (r 2 - r (68 + k)))]) hx hb dX1_verdict_34 rfl hl (by decide) rfl (fun ls hl => ?_)
      refine lv_aload_n hx hb dX1_verdict_35 rfl (lv_at hl 1 rfl) ?_
      refine va_get (D := G.1) (ci := 1) (v := .ref (γ 31)) (C := RX1) (T := TX1) (N := 16) hx hb hts in_X1 hown hE.1.1 hF 0 rfl rfl 8 (by decide) (hts _ q255) (fun _ h9 => h9) rfl dX1_verdict_36 ?_
      refine lv_iload_n hx hb dX1_verdict_39 rfl (lv_at hl 0 rfl) ?_
      refine ol_aald hx hb hE.1.1 hF 16 6 rfl rfl 0 (by decide) (by omega) rfl dX1_verdict_40 ?_
      refine lv_aload_n hx hb dX1_verdict_41 rfl (lv_at hl 2 rfl) ?_
      refine va_getN (D := G.1) (ci := 4) (v := .int (r (68 + k))) (C := RX4) (T := TX4) (N := 7) hx hb hts in_X4 hown hE.1.1 (oP_1 (hK k (by omega))) 0 rfl rfl 3 (by decide) (va_Nw.use rfl (hE.1.2.1 _ q368 rfl)) (fun _ h9 => h9) rfl dX1_verdict_42 ?_
      refine lv_iload_n hx hb dX1_verdict_45 rfl (lv_at hl 3 rfl) ?_
      refine ol_cR (st1 := [.float (cDist (f 0) (f 2) (r 3) (r (68 + k)) (r 2 - r (68 + k)))]) (va_runV (As := [.int (r (68 + k)), .int (r 2 - r (68 + k))]) (rest := []) ⟨hx, hb, hml, hown, hts⟩ (cr_distance l G (γ 33) (f 0) (f 2) (r 3) (r (68 + k)) (r 2 - r (68 + k)) (hm 0 (by omega)).1 (hm 0 (by omega)).2) (cwV 2 hts (lw_V q613 q614 q615 q63 q616) rfl rfl rfl (by decide +kernel) ⟨Nat.le_of_ble_eq_true rfl, Nat.le_of_ble_eq_true rfl⟩) (oPc.preV hE.1 (hE.1.recv (ci := 3) (hF 18 _ rfl) rfl) (hF.sub [18] rfl)) rfl rfl hl.1 rfl (lv_room (Nat.le_of_ble_eq_true rfl)) dX1_verdict_46 ⟨Nat.le_of_ble_eq_true rfl, Nat.le_of_ble_eq_true rfl⟩) rfl ?_
      refine ol_topf (y := mOff r f 0 (r (68 + k)) (r 2 - r (68 + k))) (cDist_off (q := 0) (hla 0 (by omega)) hx0) ?_
      refine lv_fstore (lv' := [(4, .float (mOff r f 0 (r (68 + k)) (r 2 - r (68 + k)))), (3, .int (nI 0)), (0, .ref (γ 0)), (1, .ref (E 0 k)), (2, .int (r 2 - r (68 + k)))]) hx hb dX1_verdict_49 hl (by decide) rfl (fun ls hl => ?_)
      refine lv_aload_n hx hb dX1_verdict_51 rfl (lv_at hl 3 rfl) ?_
      refine va_getN (D := G.1) (ci := 4) (v := .int (r (116 + k))) (C := RX4) (T := TX4) (N := 7) hx hb hts in_X4 hown hE.1.1 (oP_1 (hK k (by omega))) 0 rfl rfl 4 (by decide) (va_Nw.use rfl (hE.1.2.1 _ q371 rfl)) (fun _ h9 => h9) rfl dX1_verdict_52 ?_
      refine lv_if_eq (tgt := 76) hx hb dX1_verdict_55 (by decide) (fun c_55 => ?_) (fun c_55 => ?_)
      · have hdb : ¬ r (116 + k) = 1 := by rw [c_55]; decide
        refine lv_aload_n hx hb dX1_verdict_76 rfl (lv_at hl 2 rfl) ?_
        refine va_get (D := G.1) (ci := 1) (v := .ref (γ 31)) (C := RX1) (T := TX1) (N := 16) hx hb hts in_X1 hown hE.1.1 hF 0 rfl rfl 8 (by decide) (hts _ q255) (fun _ h9 => h9) rfl dX1_verdict_77 ?_
        refine lv_iconst (v := 0) hx hb dX1_verdict_80 (by decide) ?_
        refine ol_aald hx hb hE.1.1 hF 16 6 rfl rfl 0 (by decide) (by omega) rfl dX1_verdict_81 ?_
        refine lv_aload_n hx hb dX1_verdict_82 rfl (lv_at hl 3 rfl) ?_
        refine va_getN (D := G.1) (ci := 4) (v := .int (r (68 + k))) (C := RX4) (T := TX4) (N := 7) hx hb hts in_X4 hown hE.1.1 (oP_1 (hK k (by omega))) 0 rfl rfl 3 (by decide) (va_Nw.use rfl (hE.1.2.1 _ q368 rfl)) (fun _ h9 => h9) rfl dX1_verdict_83 ?_
        refine lv_iload_n hx hb dX1_verdict_86 rfl (lv_at hl 4 rfl) ?_
        refine ol_cR (st1 := [.float (cDist (f 0) (f 2) (r 3) (r (68 + k)) (r 2 - r (68 + k)))]) (va_runV (As := [.int (r (68 + k)), .int (r 2 - r (68 + k))]) (rest := []) ⟨hx, hb, hml, hown, hts⟩ (cr_distance l G (γ 33) (f 0) (f 2) (r 3) (r (68 + k)) (r 2 - r (68 + k)) (hm 0 (by omega)).1 (hm 0 (by omega)).2) (cwV 2 hts (lw_V q613 q614 q615 q63 q616) rfl rfl rfl (by decide +kernel) ⟨Nat.le_of_ble_eq_true rfl, Nat.le_of_ble_eq_true rfl⟩) (oPc.preV hE.1 (hE.1.recv (ci := 3) (hF 18 _ rfl) rfl) (hF.sub [18] rfl)) rfl rfl hl.1 rfl (lv_room (Nat.le_of_ble_eq_true rfl)) dX1_verdict_87 ⟨Nat.le_of_ble_eq_true rfl, Nat.le_of_ble_eq_true rfl⟩) rfl ?_
        refine ol_topf (y := mOff r f 0 (r (68 + k)) (r 2 - r (68 + k))) (cDist_off (q := 0) (hla 0 (by omega)) hx0) ?_
        refine lv_aload_n hx hb dX1_verdict_90 rfl (lv_at hl 2 rfl) ?_
        refine va_get (D := G.1) (ci := 1) (v := .ref (γ 31)) (C := RX1) (T := TX1) (N := 16) hx hb hts in_X1 hown hE.1.1 hF 0 rfl rfl 8 (by decide) (hts _ q255) (fun _ h9 => h9) rfl dX1_verdict_91 ?_
        refine lv_iconst (v := 1) hx hb dX1_verdict_94 (by decide) ?_
        refine ol_aald hx hb hE.1.1 hF 16 6 rfl rfl 1 (by decide) (by omega) rfl dX1_verdict_95 ?_
        refine lv_aload_n hx hb dX1_verdict_96 rfl (lv_at hl 3 rfl) ?_
        refine va_getN (D := G.1) (ci := 4) (v := .int (r (68 + k))) (C := RX4) (T := TX4) (N := 7) hx hb hts in_X4 hown hE.1.1 (oP_1 (hK k (by omega))) 0 rfl rfl 3 (by decide) (va_Nw.use rfl (hE.1.2.1 _ q368 rfl)) (fun _ h9 => h9) rfl dX1_verdict_97 ?_
        refine lv_iload_n hx hb dX1_verdict_100 rfl (lv_at hl 4 rfl) ?_
        refine ol_cR (st1 := [.float (cDist (f 1) (f 3) (r 4) (r (68 + k)) (r 2 - r (68 + k))), .float (mOff r f 0 (r (68 + k)) (r 2 - r (68 + k)))]) (va_runV (As := [.int (r (68 + k)), .int (r 2 - r (68 + k))]) (rest := [.float (mOff r f 0 (r (68 + k)) (r 2 - r (68 + k)))]) ⟨hx, hb, hml, hown, hts⟩ (cr_distance l G (γ 34) (f 1) (f 3) (r 4) (r (68 + k)) (r 2 - r (68 + k)) (hm 1 (by omega)).1 (hm 1 (by omega)).2) (cwV 2 hts (lw_V q613 q614 q615 q63 q616) rfl rfl rfl (by decide +kernel) ⟨Nat.le_of_ble_eq_true rfl, Nat.le_of_ble_eq_true rfl⟩) (oPc.preV hE.1 (hE.1.recv (ci := 3) (hF 19 _ rfl) rfl) (hF.sub [19] rfl)) rfl rfl hl.1 rfl (lv_room (Nat.le_of_ble_eq_true rfl)) dX1_verdict_101 ⟨Nat.le_of_ble_eq_true rfl, Nat.le_of_ble_eq_true rfl⟩) rfl ?_
        refine ol_topf (y := mOff r f 1 (r (68 + k)) (r 2 - r (68 + k))) (cDist_off (q := 1) (hla 1 (by omega)) hx0) ?_
        refine lv_fsub hx hb dX1_verdict_104 (fk_diff _ _ _ _ (hm 0 (by omega)).1 (hm 0 (by omega)).2 (hm 1 (by omega)).1 (hm 1 (by omega)).2) ?_
        refine ol_cR (st1 := [.float (fsz (FP.fsub (mOff r f 0 (r (68 + k)) (r 2 - r (68 + k))) (mOff r f 1 (r (68 + k)) (r 2 - r (68 + k)))))]) (va_runSN (As := [.float (FP.fsub (mOff r f 0 (r (68 + k)) (r 2 - r (68 + k))) (mOff r f 1 (r (68 + k)) (r 2 - r (68 + k))))]) (rest := []) ⟨hx, hb, hml, hown, hts⟩ (cr_size l G (FP.fsub (mOff r f 0 (r (68 + k)) (r 2 - r (68 + k))) (mOff r f 1 (r (68 + k)) (r 2 - r (68 + k)))) ) ⟨va_cnB 1 hts (lw_meth q619) rfl rfl rfl (hE.1.2.1 _ q628 rfl) (hts _ q57) (by decide +kernel) ⟨Nat.le_of_ble_eq_true rfl, Nat.le_of_ble_eq_true rfl⟩, hts _ q618, trivial⟩ (oPc.preS hE.1 trivial) rfl rfl hl.1 rfl (lv_room (Nat.le_of_ble_eq_true rfl)) dX1_verdict_105 ⟨Nat.le_of_ble_eq_true rfl, Nat.le_of_ble_eq_true rfl⟩) rfl ?_
        refine lv_fstore (lv' := [(5, .float (fsz (FP.fsub (mOff r f 0 (r (68 + k)) (r 2 - r (68 + k))) (mOff r f 1 (r (68 + k)) (r 2 - r (68 + k)))))), (4, .float (mOff r f 0 (r (68 + k)) (r 2 - r (68 + k)))), (3, .int (nI 0)), (0, .ref (γ 0)), (1, .ref (E 0 k)), (2, .int (r 2 - r (68 + k)))]) hx hb dX1_verdict_108 hl (by decide) rfl (fun ls hl => ?_)
        refine lv_fload hx hb dX1_verdict_110 (lv_at hl 0 rfl) ?_
        refine lv_aload_n hx hb dX1_verdict_112 rfl (lv_at hl 3 rfl) ?_
        refine va_get (D := G.1) (ci := 1) (v := .ref (γ 32)) (C := RX1) (T := TX1) (N := 16) hx hb hts in_X1 hown hE.1.1 hF 0 rfl rfl 9 (by decide) (hts _ q257) (fun _ h9 => h9) rfl dX1_verdict_113 ?_
        refine lv_iconst (v := 0) hx hb dX1_verdict_116 (by decide) ?_
        refine ol_fald hx hb hE.1.1 hF 17 2 rfl rfl 0 (by decide) (by decide) dX1_verdict_117 ?_
        refine ol_topf (y := f 4) rfl ?_
        refine lv_fcmp hx hb dX1_verdict_118 ?_
        refine lv_if_lt (tgt := 124) hx hb dX1_verdict_119 (by decide) (fun c_119 => ?_) (fun c_119 => ?_)
        · have hma : flt (fsz (FP.fsub (mOff r f 0 (r (68 + k)) (r 2 - r (68 + k))) (mOff r f 1 (r (68 + k)) (r 2 - r (68 + k))))) (f 4) = true := by unfold flt; rw [← hfc.2]; simp [Int32.not_le.mpr c_119]
          refine lv_aload_n hx hb dX1_verdict_124 rfl (lv_at hl 3 rfl) ?_
          refine va_get (D := G.1) (ci := 1) (v := .ref (γ 5)) (C := RX1) (T := TX1) (N := 16) hx hb hts in_X1 hown hE.1.1 hF 0 rfl rfl 1 (by decide) (hts _ q241) (fun _ h9 => h9) rfl dX1_verdict_125 ?_
          refine ol_cF5 (st1 := [.int (nI (cN (r 16)))]) (va_runF (As := []) (rest := []) (hE.1.1.1 9 _ rfl).2 ⟨hx, hb, hml, hown, hts⟩ (jr_size l G (γ 5) (γ 6) (cN (r 16)) (nI (γ 8))) (va_cwF 0 hts (lw_F q456 q416 q418 q61 q420) rfl rfl rfl (hE.2.1 _ (List.mem_of_getElem? (i := 2) rfl)) (by decide +kernel) ⟨Nat.le_of_ble_eq_true rfl, Nat.le_of_ble_eq_true rfl⟩) (oPc.preV hE.1 (hE.1.recv (ci := 9) (hF 3 _ rfl) rfl) (hF.sub [3] rfl)) rfl rfl hl.1 rfl (lv_room (Nat.le_of_ble_eq_true rfl)) dX1_verdict_128 ⟨Nat.le_of_ble_eq_true rfl, Nat.le_of_ble_eq_true rfl⟩) rfl ?_
          refine lv_bipush (v := 20) hx hb dX1_verdict_133 (by decide) ?_
          obtain ⟨h16, h16b⟩ := nn_of hr16
          refine ol_icmp_ne hx hb (cN (r 16)) 20 (by omega) (by omega) (tgt := 142) dX1_verdict_135 (by decide) (fun c_135 => ?_) (fun c_135 => ?_)
          · have hfu : ¬ r 16 = 20 := fun e => c_135 (by rw [e]; rfl)
            refine lv_iconst (v := 3) hx hb dX1_verdict_142 (by decide) ?_
            exact ol_iretR hx hb hr hlocks rfl (by unfold mJd; simp [hs0, hn, hdb, hma, hfu]; try rfl) dX1_verdict_143
          · have hfu : r 16 = 20 := by rw [h16, show cN (r 16) = 20 by omega]; rfl
            refine lv_iconst (v := 2) hx hb dX1_verdict_138 (by decide) ?_
            refine lv_goto (tgt := 143) hx hb dX1_verdict_139 (by decide) ?_
            exact ol_iretR hx hb hr hlocks rfl (by unfold mJd; simp [hs0, hn, hdb, hma, hfu]; try rfl) dX1_verdict_143
        · have hma : flt (fsz (FP.fsub (mOff r f 0 (r (68 + k)) (r 2 - r (68 + k))) (mOff r f 1 (r (68 + k)) (r 2 - r (68 + k))))) (f 4) = false := by unfold flt; rw [← hfc.2]; simp [Int32.not_lt.mp c_119]
          refine lv_iload_n hx hb dX1_verdict_122 rfl (lv_at hl 2 rfl) ?_
          exact ol_iretR hx hb hr hlocks rfl (by unfold mJd; simp [hs0, hn, hdb, hma]; try rfl) dX1_verdict_123
      · have hdb : r (116 + k) = 1 := ((hsi k hk).2.2.2).resolve_left c_55
        refine lv_fload hx hb dX1_verdict_58 (lv_at hl 0 rfl) ?_
        refine lv_aload_n hx hb dX1_verdict_60 rfl (lv_at hl 2 rfl) ?_
        refine va_get (D := G.1) (ci := 1) (v := .ref (γ 32)) (C := RX1) (T := TX1) (N := 16) hx hb hts in_X1 hown hE.1.1 hF 0 rfl rfl 9 (by decide) (hts _ q257) (fun _ h9 => h9) rfl dX1_verdict_61 ?_
        refine lv_iconst (v := 1) hx hb dX1_verdict_64 (by decide) ?_
        refine ol_fald hx hb hE.1.1 hF 17 2 rfl rfl 1 (by decide) (by decide) dX1_verdict_65 ?_
        refine ol_topf (y := f 5) rfl ?_
        refine lv_fcmp hx hb dX1_verdict_66 ?_
        refine lv_if_le (tgt := 74) hx hb dX1_verdict_67 (by decide) (fun c_67 => ?_) (fun c_67 => ?_)
        · have hfl : fle (mOff r f 0 (r (68 + k)) (r 2 - r (68 + k))) (f 5) = true := by unfold fle; rw [← hfc.1 0 (by omega)]; simp [Int32.not_lt.mpr c_67]
          refine lv_iload_n hx hb dX1_verdict_74 rfl (lv_at hl 1 rfl) ?_
          exact ol_iretR hx hb hr hlocks rfl (by unfold mJd; simp [hs0, hn, hdb, hfl]; try rfl) dX1_verdict_75
        · have hfl : fle (mOff r f 0 (r (68 + k)) (r 2 - r (68 + k))) (f 5) = false := by unfold fle; rw [← hfc.1 0 (by omega)]; simp [Int32.not_le.mp c_67]
          refine lv_iconst (v := 2) hx hb dX1_verdict_70 (by decide) ?_
          refine lv_goto (tgt := 75) hx hb dX1_verdict_71 (by decide) ?_
          exact ol_iretR hx hb hr hlocks rfl (by unfold mJd; simp [hs0, hn, hdb, hfl]; try rfl) dX1_verdict_75
  · have hs0 : ¬ mSh r (nI k) < 0 := by rcases mSh_c r (nI k) with h | h | h <;> first | (rw [h]; decide) | exact absurd h c_6
    refine lv_aload_n hx hb dX1_verdict_9 rfl (lv_at hl 1 rfl) ?_
    refine va_getN (D := G.1) (ci := 4) (v := .int (r (116 + k))) (C := RX4) (T := TX4) (N := 7) hx hb hts in_X4 hown hE.1.1 (oP_1 (hK k (by omega))) 0 rfl rfl 4 (by decide) (va_Nw.use rfl (hE.1.2.1 _ q371 rfl)) (fun _ h9 => h9) rfl dX1_verdict_10 ?_
    refine lv_if_eq (tgt := 20) hx hb dX1_verdict_13 (by decide) (fun c_13 => ?_) (fun c_13 => ?_)
    · have hdb : ¬ r (116 + k) = 1 := by rw [c_13]; decide
      refine lv_aload_n hx hb dX1_verdict_20 rfl (lv_at hl 1 rfl) ?_
      refine va_getN (D := G.1) (ci := 4) (v := .int (mSh r (nI k))) (C := RX4) (T := TX4) (N := 7) hx hb hts in_X4 hown hE.1.1 (oP_1 (hK k (by omega))) 0 rfl rfl 1 (by decide) (va_Nw.use rfl (hE.1.2.1 _ q362 rfl)) (fun _ h9 => h9) rfl dX1_verdict_21 ?_
      exact ol_iretR hx hb hr hlocks rfl (by unfold mJd; simp [hs0, hdb]; try rfl) dX1_verdict_24
    · have hdb : r (116 + k) = 1 := ((hsi k hk).2.2.2).resolve_left c_13
      refine lv_iconst (v := 2) hx hb dX1_verdict_16 (by decide) ?_
      refine lv_goto (tgt := 24) hx hb dX1_verdict_17 (by decide) ?_
      exact ol_iretR hx hb hr hlocks rfl (by unfold mJd; simp [hs0, hdb]; try rfl) dX1_verdict_24
