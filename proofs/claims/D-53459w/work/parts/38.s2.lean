/-! THE COMPONENT's STATE: what is sensed -/
theorem nb_and {a j : Nat} (ha : a < 2 ^ 31) (hj : j < 31) : nI a &&& nI (2 ^ j) = nI (if a.testBit j = true then 2 ^ j else 0) := by
  have h2 : (2 : Nat) ^ j < 2 ^ 31 := Nat.pow_lt_pow_right (by decide) hj
  have e : a &&& 2 ^ j = if a.testBit j = true then 2 ^ j else 0 := by
    apply Nat.eq_of_testBit_eq
    intro i
    rw [Nat.testBit_and, Nat.testBit_two_pow]
    by_cases h : j = i
    · subst h
      by_cases hb : a.testBit j = true
      · rw [if_pos hb, hb, Nat.testBit_two_pow]; simp
      · rw [if_neg hb]; simp [hb]
    · have h' : decide (j = i) = false := decide_eq_false h
      by_cases hb : a.testBit j = true
      · rw [if_pos hb, Nat.testBit_two_pow, h']; simp
      · rw [if_neg hb, h']; simp
  rw [← e]
  apply Int32.toBitVec_inj.mp
  unfold nI
  simp
theorem nb_and0 {a j : Nat} (ha : a < 2 ^ 31) (hj : j < 31) : nI a &&& nI (2 ^ j) = 0 ↔ a.testBit j = false := by
  have h2 : (2 : Nat) ^ j < 2 ^ 31 := Nat.pow_lt_pow_right (by decide) hj
  have h0 : 0 < (2 : Nat) ^ j := Nat.two_pow_pos j
  rw [nb_and ha hj]
  by_cases hb : a.testBit j = true
  · rw [if_pos hb, hb]
    refine ⟨fun h => ?_, fun h => by cases h⟩
    have := congrArg Int32.toInt h
    rw [nI_toInt h2] at this
    have e0 : (0 : Int32).toInt = 0 := rfl
    omega
  · rw [if_neg hb]
    simp only [Bool.not_eq_true] at hb
    exact ⟨fun _ => hb, fun _ => rfl⟩
theorem or_bit {a j : Nat} (h : a.testBit j = true) : a ||| 2 ^ j = a := by
  apply Nat.eq_of_testBit_eq
  intro i
  rw [Nat.testBit_or, Nat.testBit_two_pow]
  by_cases e : j = i
  · subst e; rw [h]; rfl
  · rw [decide_eq_false e, Bool.or_false]
theorem sen_A {r : Nat → Int32} {Cl k : Nat} {x : Nat × Nat} (h : dn r k = false) : mDs r Cl (k + 1) x = mDs r Cl k x := by
  rw [mDs, h, if_neg (by simp)]
theorem sen_B {r : Nat → Int32} {Cl k : Nat} {x : Nat × Nat} (h : (mDs r Cl k x).1.testBit (k / Cl) = (mDs r Cl k x).2.testBit (k % Cl)) : mDs r Cl (k + 1) x = mDs r Cl k x := by
  rw [mDs]
  split
  · rename_i hc
    simp only [Bool.and_eq_true, Bool.or_eq_true] at hc
    have h1 : (mDs r Cl k x).1.testBit (k / Cl) = true := hc.2.elim id (fun q => h.trans q)
    rw [or_bit h1, or_bit (h ▸ h1)]
  · rfl
theorem sen_D {r : Nat → Int32} {Cl k : Nat} {x : Nat × Nat} (hd : dn r k = true) (h : (mDs r Cl k x).1.testBit (k / Cl) ≠ (mDs r Cl k x).2.testBit (k % Cl)) : mDs r Cl (k + 1) x = ((mDs r Cl k x).1 ||| 2 ^ (k / Cl), (mDs r Cl k x).2 ||| 2 ^ (k % Cl)) ∧ mDs r Cl (k + 1) x ≠ x := by
  have e : mDs r Cl (k + 1) x = ((mDs r Cl k x).1 ||| 2 ^ (k / Cl), (mDs r Cl k x).2 ||| 2 ^ (k % Cl)) := by
    rw [mDs, hd, if_pos]
    cases h1 : (mDs r Cl k x).1.testBit (k / Cl) <;> cases h2 : (mDs r Cl k x).2.testBit (k % Cl) <;> simp_all
  refine ⟨e, fun q => ?_⟩
  have hl := mDs_le r Cl k x
  have e1 := congrArg Prod.fst (e.symm.trans q)
  have e2 := congrArg Prod.snd (e.symm.trans q)
  dsimp only at e1 e2
  have g1 : (mDs r Cl k x).1 = x.1 := Nat.le_antisymm (by rw [← e1]; exact Nat.left_le_or) hl.1
  have g2 : (mDs r Cl k x).2 = x.2 := Nat.le_antisymm (by rw [← e2]; exact Nat.left_le_or) hl.2
  rw [← g1] at e1
  rw [← g2] at e2
  apply h
  rw [← e1, ← e2, Nat.testBit_or, Nat.testBit_or, Nat.testBit_two_pow, Nat.testBit_two_pow]
  simp
set_option maxHeartbeats 4000000 in
set_option maxRecDepth 100000 in
theorem cr_sensed (l : Launch) (G : oG) (Z : oZ) (γ : Nat → Nat) (X : Nat → Nat → Option Nat) (E : Nat → Nat → Nat) (r : Nat → Int32) (f : Nat → UInt32) (Rw Cl : Nat) (q : Nat) (hg : mG r Rw Cl) (hsk : sK γ X E (Rw * Cl)) (hq : q < Rw) (hsi : sI r (Rw * Cl)) : Met l yX1_sensed (ws_ yX1_sensed cX1_sensed 8 (some .int)) ({ frames := 3, cells := 0, slots := 0, locals := 64 }) (oPc1 G Z [.ref (γ 0), .int (nI q)] (fun H => sR G γ X E r f (Rw * Cl) H)) (oR (some (.int (nI ((mDrv r Rw Cl q).2))))) 0 0 (fun _ => False) := by
  refine Met.ofW (cc := cX1_sensed) (maxL := 8) (ret := (some .int)) (by decide) rfl ?_
  intro p e s m args below meth c s₁ B hml hv
  obtain ⟨rfl, hP, hE⟩ := hv
  have hx := B.exec
  have hb := B.bytes
  have hr := B.returns
  have hts := atoms_spec (ws := ws_ yX1_sensed cX1_sensed 8 (some .int)) B.pre
  have hts : ∀ w ∈ lw_all, w.before _ s = true := fun w h => hts w (List.mem_cons_of_mem _ h)
  have hown : s.vm.findClass RX1 = some m.cls := findClass_of_methodNamed B.named
  have hlocks := B.notSynchronized
  have hl := lv_entry ([.ref (γ 0), .int (nI q)]) (n := 8) (Nat.le_of_ble_eq_true rfl)
  rw [lg_entry_eq]
  generalize (lg_sl ([.ref (γ 0), .int (nI q)]) ++ List.replicate (8 - (lg_sl ([.ref (γ 0), .int (nI q)])).length) Slot.unset).toArray = ls at hl ⊢
  replace hl : lv_has ls 8 [(0, .ref (γ 0)), (1, .int (nI q))] := hl
  have hgn := mG_n hg
  have hg' := hg
  obtain ⟨hg0, hg1, hg2, hg3, hg4, hg5⟩ := hg'
  obtain ⟨hF, hK⟩ := hP
  have hsk1 := hsk
  obtain ⟨hk1, hk2, hk3, hk4⟩ := hsk1
  refine lv_iconst (v := 1) hx hb dX1_sensed_0 (by decide) ?_
  refine lv_iload_n hx hb dX1_sensed_1 rfl (lv_at hl 1 rfl) ?_
  refine lv_ishl hx hb dX1_sensed_2 ?_
  refine ol_top (y := nI (2 ^ q)) (nb_shl (by omega)) ?_
  refine lv_istore_n (lv' := [(2, .int (nI (2 ^ q))), (0, .ref (γ 0)), (1, .int (nI q))]) hx hb dX1_sensed_3 rfl hl (by decide) rfl (fun ls hl => ?_)
  refine lv_iconst (v := 0) hx hb dX1_sensed_4 (by decide) ?_
  refine lv_istore_n (lv' := [(3, .int 0), (2, .int (nI (2 ^ q))), (0, .ref (γ 0)), (1, .int (nI q))]) hx hb dX1_sensed_5 rfl hl (by decide) rfl (fun ls hl => ?_)
  refine lv_iconst (v := 1) hx hb dX1_sensed_6 (by decide) ?_
  refine lv_istore (lv' := [(4, .int 1), (3, .int 0), (2, .int (nI (2 ^ q))), (0, .ref (γ 0)), (1, .int (nI q))]) hx hb dX1_sensed_7 hl (by decide) rfl (fun ls hl => ?_)
  refine ol_while (P := fun (x : (Nat × Nat) × Bool) H1 locs1 ls => lv_has ls 8 [(2, .int (nI x.1.1)), (3, .int (nI x.1.2)), (4, .int (zB x.2)), (0, .ref (γ 0)), (1, .int (nI q))] ∧ drvInv r Rw Cl q x ∧ H1 = s.heap ∧ locs1 = []) drvMu ((2 ^ q, 0), true) ⟨lv_sub hl [2, 1, 0, 3, 4] rfl, drv_0 (by omega), rfl, rfl⟩ (fun x H1 locs1 ls hI ihw => ?_)
  obtain ⟨hl, hinv, rfl, rfl⟩ := hI
  refine lv_iload hx hb dX1_sensed_9 (lv_at hl 2 rfl) ?_
  refine ol_if_eqB hx hb x.2 (tgt := 128) dX1_sensed_11 (by decide) (fun c_11 => ?_) (fun c_11 => ?_)
  · refine lv_iload_n hx hb dX1_sensed_128 rfl (lv_at hl 1 rfl) ?_
    exact ol_iretR hx hb hr hlocks rfl (by obtain ⟨-, -, h3⟩ := hinv; rw [if_neg (by rw [c_11]; decide)] at h3; rw [h3]) dX1_sensed_129
  · refine lv_iconst (v := 0) hx hb dX1_sensed_14 (by decide) ?_
    refine lv_istore (lv' := [(4, .int 0), (2, .int (nI x.1.1)), (3, .int (nI x.1.2)), (0, .ref (γ 0)), (1, .int (nI q))]) hx hb dX1_sensed_15 hl (by decide) rfl (fun ls hl => ?_)
    refine lv_iconst (v := 0) hx hb dX1_sensed_17 (by decide) ?_
    refine lv_istore (lv' := [(5, .int 0), (4, .int 0), (2, .int (nI x.1.1)), (3, .int (nI x.1.2)), (0, .ref (γ 0)), (1, .int (nI q))]) hx hb dX1_sensed_18 hl (by decide) rfl (fun ls hl => ?_)
    refine ol_for (P := fun i1 H1 locs1 ls => lv_has ls 8 [(5, .int (nI i1)), (2, .int (nI (mDs r Cl i1 x.1).1)), (3, .int (nI (mDs r Cl i1 x.1).2)), (4, .int (zB (!decide (mDs r Cl i1 x.1 = x.1)))), (0, .ref (γ 0)), (1, .int (nI q))] ∧ H1 = s.heap ∧ locs1 = []) (Rw * Cl) 0 (by omega) ⟨by rw [show mDs r Cl 0 x.1 = x.1 from rfl, decide_eq_true rfl]; exact lv_sub hl [0, 2, 3, 1, 4, 5] rfl, rfl, rfl⟩ (fun i1 H1 locs1 ls hi1 hI ih1 => ?_)
    obtain ⟨hl, rfl, rfl⟩ := hI
    have hlt := mDs_lt r (k := i1) hg3 ⟨hg4, hg5⟩ hinv.1 hinv.2.1 hi1
    refine lv_iload hx hb dX1_sensed_20 (lv_at hl 0 rfl) ?_
    refine lv_aload_n hx hb dX1_sensed_22 rfl (lv_at hl 4 rfl) ?_
    refine va_get (D := G.1) (ci := 1) (v := .ref (γ 1)) (C := RX1) (T := TX1) (N := 16) hx hb hts in_X1 hown hE.1.1 hF 0 rfl rfl 0 (by decide) (hts _ q239) (fun _ h9 => h9) rfl dX1_sensed_23 ?_
    refine ol_cF5 (st1 := [.int (nI (Rw * Cl)), .int (nI i1)]) (va_runF (As := []) (rest := [.int (nI i1)]) (hE.1.1.1 9 _ rfl).2 ⟨hx, hb, hml, hown, hts⟩ (jr_size l G (γ 1) (γ 2) (Rw * Cl) (nI (γ 4))) (va_cwF 0 hts (lw_F q456 q416 q418 q61 q420) rfl rfl rfl (hE.2.1 _ (List.mem_of_getElem? (i := 2) rfl)) (by decide +kernel) ⟨Nat.le_of_ble_eq_true rfl, Nat.le_of_ble_eq_true rfl⟩) (oPc.preV hE.1 (hE.1.recv (ci := 9) (hF 1 _ rfl) rfl) (hF.sub [1] rfl)) rfl rfl hl.1 rfl (lv_room (Nat.le_of_ble_eq_true rfl)) dX1_sensed_26 ⟨Nat.le_of_ble_eq_true rfl, Nat.le_of_ble_eq_true rfl⟩) rfl ?_
    refine ol_icmp_ge hx hb i1 (Rw * Cl) (by omega) (by omega) (tgt := 125) dX1_sensed_31 (by decide) (fun c_31 => ?_) (fun c_31 => ?_)
    · obtain ⟨rfl⟩ : i1 = Rw * Cl := by omega
      refine lv_goto (tgt := 9) hx hb dX1_sensed_125 (by decide) ?_
      by_cases he : mDs r Cl (Rw * Cl) x.1 = x.1
      · obtain ⟨g1, g2⟩ := drv_last hinv c_11 he
        refine ihw _ s.heap [] ls g2 ⟨?_, g1, rfl, rfl⟩
        have hl2 := lv_sub hl [1, 2, 3, 4, 5] rfl
        rw [he, decide_eq_true rfl] at hl2
        rw [he]
        exact hl2
      · obtain ⟨g1, g2⟩ := drv_next hg3 ⟨hg4, hg5⟩ hinv c_11 he
        refine ihw _ s.heap [] ls g2 ⟨?_, g1, rfl, rfl⟩
        have hl2 := lv_sub hl [1, 2, 3, 4, 5] rfl
        rw [decide_eq_false he] at hl2
        exact hl2
    · have hr1 : i1 / Cl < 6 := Nat.lt_of_lt_of_le ((Nat.div_lt_iff_lt_mul (by omega)).mpr (by omega)) hg3
      have hr2 : i1 % Cl < 8 := Nat.lt_of_lt_of_le (Nat.mod_lt _ (by omega)) hg5
      have hr3 : (2 : Nat) ^ (i1 / Cl) < 2 ^ 31 := Nat.pow_lt_pow_right (by decide) (by omega)
      have hr4 : (2 : Nat) ^ (i1 % Cl) < 2 ^ 31 := Nat.pow_lt_pow_right (by decide) (by omega)
      refine lv_iconst (v := 1) hx hb dX1_sensed_34 (by decide) ?_
      refine lv_iload hx hb dX1_sensed_35 (lv_at hl 0 rfl) ?_
      refine lv_aload_n hx hb dX1_sensed_37 rfl (lv_at hl 4 rfl) ?_
      refine va_get (D := G.1) (ci := 1) (v := .int (r 1)) (C := RX1) (T := TX1) (N := 16) hx hb hts in_X1 hown hE.1.1 hF 0 rfl rfl 11 (by decide) (hts _ q261) (fun _ h9 => h9) rfl dX1_sensed_38 ?_
      refine ol_top (y := nI Cl) hg1 ?_
      refine ol_idiv hx hb i1 Cl (by omega) (by omega) (by omega) dX1_sensed_41 ?_
      refine lv_ishl hx hb dX1_sensed_42 ?_
      refine ol_top (y := nI (2 ^ (i1 / Cl))) (nb_shl (by omega)) ?_
      refine lv_istore (lv' := [(6, .int (nI (2 ^ (i1 / Cl)))), (5, .int (nI i1)), (2, .int (nI ((mDs r Cl i1 x.1).1))), (3, .int (nI ((mDs r Cl i1 x.1).2))), (4, .int (zB (!decide (mDs r Cl i1 x.1 = x.1)))), (0, .ref (γ 0)), (1, .int (nI q))]) hx hb dX1_sensed_43 hl (by decide) rfl (fun ls hl => ?_)
      refine lv_iconst (v := 1) hx hb dX1_sensed_45 (by decide) ?_
      refine lv_iload hx hb dX1_sensed_46 (lv_at hl 1 rfl) ?_
      refine lv_aload_n hx hb dX1_sensed_48 rfl (lv_at hl 5 rfl) ?_
      refine va_get (D := G.1) (ci := 1) (v := .int (r 1)) (C := RX1) (T := TX1) (N := 16) hx hb hts in_X1 hown hE.1.1 hF 0 rfl rfl 11 (by decide) (hts _ q261) (fun _ h9 => h9) rfl dX1_sensed_49 ?_
      refine ol_top (y := nI Cl) hg1 ?_
      refine ol_irem hx hb i1 Cl (by omega) (by omega) (by omega) dX1_sensed_52 ?_
      refine lv_ishl hx hb dX1_sensed_53 ?_
      refine ol_top (y := nI (2 ^ (i1 % Cl))) (nb_shl (by omega)) ?_
      refine lv_istore (lv' := [(7, .int (nI (2 ^ (i1 % Cl)))), (6, .int (nI (2 ^ (i1 / Cl)))), (5, .int (nI i1)), (2, .int (nI ((mDs r Cl i1 x.1).1))), (3, .int (nI ((mDs r Cl i1 x.1).2))), (4, .int (zB (!decide (mDs r Cl i1 x.1 = x.1)))), (0, .ref (γ 0)), (1, .int (nI q))]) hx hb dX1_sensed_54 hl (by decide) rfl (fun ls hl => ?_)
      refine lv_aload_n hx hb dX1_sensed_56 rfl (lv_at hl 6 rfl) ?_
      refine va_get (D := G.1) (ci := 1) (v := .ref (γ 1)) (C := RX1) (T := TX1) (N := 16) hx hb hts in_X1 hown hE.1.1 hF 0 rfl rfl 0 (by decide) (hts _ q239) (fun _ h9 => h9) rfl dX1_sensed_57 ?_
      refine lv_iload hx hb dX1_sensed_60 (lv_at hl 2 rfl) ?_
      refine ol_cF5 (st1 := [.ref (E 0 i1)]) (va_runF (As := [.int (nI i1)]) (rest := []) (hE.1.1.1 9 _ rfl).2 ⟨hx, hb, hml, hown, hts⟩ (jr_get l G (γ 1) (γ 2) (Rw * Cl) (γ 3) (nI (γ 4)) (X 0) i1 (E 0 i1) (by omega) (by omega) (by omega) (hk4 _ (by omega))) (va_cwF 1 hts (lw_F q458 q425 q427 q61 q429) rfl rfl rfl (hE.2.1 _ (List.mem_of_getElem? (i := 3) rfl)) (by decide +kernel) ⟨Nat.le_of_ble_eq_true rfl, Nat.le_of_ble_eq_true rfl⟩) (oPc.preV hE.1 (hE.1.recv (ci := 9) (hF 1 _ rfl) rfl) (hF.sub [1, 2] rfl)) rfl rfl hl.1 rfl (lv_room (Nat.le_of_ble_eq_true rfl)) dX1_sensed_62 ⟨Nat.le_of_ble_eq_true rfl, Nat.le_of_ble_eq_true rfl⟩) rfl ?_
      refine va_castE hx hb hown (hts _ q352) (hE.1.recv (ci := 4) ((oP_1 (hK i1 (by omega))) 0 _ rfl) rfl) dX1_sensed_67 ?_
      refine ol_cR (st1 := [.int (zB (!decide (r (20 + i1) = -5)))]) (va_runV (As := []) (rest := []) ⟨hx, hb, hml, hown, hts⟩ (cr_isDown l G (E 0 i1) (r (260 + i1)) (mSh r (nI i1)) (r (20 + i1)) (r (68 + i1)) (r (116 + i1)) (r (164 + i1)) (r (212 + i1))) (cwV 0 hts (lw_V q566 q442 q443 q72 q444) rfl rfl rfl (by decide +kernel) ⟨Nat.le_of_ble_eq_true rfl, Nat.le_of_ble_eq_true rfl⟩) (oPc.preV hE.1 (hE.1.recv (ci := 4) ((oP_1 (hK i1 (by omega))) 0 _ rfl) rfl) (oP_1 (hK i1 (by omega)))) rfl rfl hl.1 rfl (lv_room (Nat.le_of_ble_eq_true rfl)) dX1_sensed_70 ⟨Nat.le_of_ble_eq_true rfl, Nat.le_of_ble_eq_true rfl⟩) rfl ?_
      refine ol_top (y := zB (dn r i1)) (congrArg zB (oNg_d (hsi i1 (by omega)).1)) ?_
      refine ol_if_eqB hx hb (dn r i1) (tgt := 119) dX1_sensed_73 (by decide) (fun c_73 => ?_) (fun c_73 => ?_)
      · refine ol_iinc (k := 2) (lv' := [(5, .int (nI (i1 + 1))), (7, .int (nI (2 ^ (i1 % Cl)))), (6, .int (nI (2 ^ (i1 / Cl)))), (2, .int (nI ((mDs r Cl i1 x.1).1))), (3, .int (nI ((mDs r Cl i1 x.1).2))), (4, .int (zB (!decide (mDs r Cl i1 x.1 = x.1)))), (0, .ref (γ 0)), (1, .int (nI q))]) hx hb 1 i1 dX1_sensed_119 hl rfl (by decide) rfl (fun ls hl => ?_)
        refine lv_goto (tgt := 20) hx hb dX1_sensed_122 (by decide) ?_
        refine ih1 s.heap [] ls (by omega) ⟨?_, rfl, rfl⟩
        · rw [sen_A c_73]
          exact lv_sub hl [0, 3, 4, 5, 6, 7] rfl
      · refine lv_iload_n hx hb dX1_sensed_76 rfl (lv_at hl 3 rfl) ?_
        refine lv_iload hx hb dX1_sensed_77 (lv_at hl 1 rfl) ?_
        refine lv_iand hx hb dX1_sensed_79 ?_
        refine lv_if_eq (tgt := 87) hx hb dX1_sensed_80 (by decide) (fun c_80 => ?_) (fun c_80 => ?_)
        · have hb1 : (mDs r Cl i1 x.1).1.testBit (i1 / Cl) = false := (nb_and0 (by omega) (by omega)).mp c_80
          refine lv_iconst (v := 0) hx hb dX1_sensed_87 (by decide) ?_
          refine lv_iload_n hx hb dX1_sensed_88 rfl (lv_at hl 4 rfl) ?_
          refine lv_iload hx hb dX1_sensed_89 (lv_at hl 0 rfl) ?_
          refine lv_iand hx hb dX1_sensed_91 ?_
          refine lv_if_eq (tgt := 99) hx hb dX1_sensed_92 (by decide) (fun c_92 => ?_) (fun c_92 => ?_)
          · have hb2 : (mDs r Cl i1 x.1).2.testBit (i1 % Cl) = false := (nb_and0 (by omega) (by omega)).mp c_92
            refine lv_iconst (v := 0) hx hb dX1_sensed_99 (by decide) ?_
            refine ol_icmp_ne hx hb 0 0 (by omega) (by omega) (tgt := 106) dX1_sensed_100 (by decide) (fun c_100 => ?_) (fun c_100 => ?_)
            · exact absurd c_100 (by decide)
            · refine lv_goto (tgt := 119) hx hb dX1_sensed_103 (by decide) ?_
              refine ol_iinc (k := 2) (lv' := [(5, .int (nI (i1 + 1))), (7, .int (nI (2 ^ (i1 % Cl)))), (6, .int (nI (2 ^ (i1 / Cl)))), (2, .int (nI ((mDs r Cl i1 x.1).1))), (3, .int (nI ((mDs r Cl i1 x.1).2))), (4, .int (zB (!decide (mDs r Cl i1 x.1 = x.1)))), (0, .ref (γ 0)), (1, .int (nI q))]) hx hb 1 i1 dX1_sensed_119 hl rfl (by decide) rfl (fun ls hl => ?_)
              refine lv_goto (tgt := 20) hx hb dX1_sensed_122 (by decide) ?_
              refine ih1 s.heap [] ls (by omega) ⟨?_, rfl, rfl⟩
              · rw [sen_B (hb1.trans hb2.symm)]
                exact lv_sub hl [0, 3, 4, 5, 6, 7] rfl
          · have hb2 : (mDs r Cl i1 x.1).2.testBit (i1 % Cl) = true := by
              cases hq : (mDs r Cl i1 x.1).2.testBit (i1 % Cl)
              · exact absurd ((nb_and0 (by omega) (by omega)).mpr hq) c_92
              · rfl
            refine lv_iconst (v := 1) hx hb dX1_sensed_95 (by decide) ?_
            refine lv_goto (tgt := 100) hx hb dX1_sensed_96 (by decide) ?_
            refine ol_icmp_ne hx hb 0 1 (by omega) (by omega) (tgt := 106) dX1_sensed_100 (by decide) (fun c_100 => ?_) (fun c_100 => ?_)
            · refine lv_iload_n hx hb dX1_sensed_106 rfl (lv_at hl 3 rfl) ?_
              refine lv_iload hx hb dX1_sensed_107 (lv_at hl 1 rfl) ?_
              refine ol_ior hx hb ((mDs r Cl i1 x.1).1) (2 ^ (i1 / Cl)) dX1_sensed_109 ?_
              refine lv_istore_n (lv' := [(2, .int (nI (((mDs r Cl i1 x.1).1) ||| (2 ^ (i1 / Cl))))), (7, .int (nI (2 ^ (i1 % Cl)))), (6, .int (nI (2 ^ (i1 / Cl)))), (5, .int (nI i1)), (3, .int (nI ((mDs r Cl i1 x.1).2))), (4, .int (zB (!decide (mDs r Cl i1 x.1 = x.1)))), (0, .ref (γ 0)), (1, .int (nI q))]) hx hb dX1_sensed_110 rfl hl (by decide) rfl (fun ls hl => ?_)
              refine lv_iload_n hx hb dX1_sensed_111 rfl (lv_at hl 4 rfl) ?_
              refine lv_iload hx hb dX1_sensed_112 (lv_at hl 1 rfl) ?_
              refine ol_ior hx hb ((mDs r Cl i1 x.1).2) (2 ^ (i1 % Cl)) dX1_sensed_114 ?_
              refine lv_istore_n (lv' := [(3, .int (nI (((mDs r Cl i1 x.1).2) ||| (2 ^ (i1 % Cl))))), (2, .int (nI (((mDs r Cl i1 x.1).1) ||| (2 ^ (i1 / Cl))))), (7, .int (nI (2 ^ (i1 % Cl)))), (6, .int (nI (2 ^ (i1 / Cl)))), (5, .int (nI i1)), (4, .int (zB (!decide (mDs r Cl i1 x.1 = x.1)))), (0, .ref (γ 0)), (1, .int (nI q))]) hx hb dX1_sensed_115 rfl hl (by decide) rfl (fun ls hl => ?_)
              refine lv_iconst (v := 1) hx hb dX1_sensed_116 (by decide) ?_
              refine lv_istore (lv' := [(4, .int 1), (3, .int (nI (((mDs r Cl i1 x.1).2) ||| (2 ^ (i1 % Cl))))), (2, .int (nI (((mDs r Cl i1 x.1).1) ||| (2 ^ (i1 / Cl))))), (7, .int (nI (2 ^ (i1 % Cl)))), (6, .int (nI (2 ^ (i1 / Cl)))), (5, .int (nI i1)), (0, .ref (γ 0)), (1, .int (nI q))]) hx hb dX1_sensed_117 hl (by decide) rfl (fun ls hl => ?_)
              refine ol_iinc (k := 5) (lv' := [(5, .int (nI (i1 + 1))), (4, .int 1), (3, .int (nI (((mDs r Cl i1 x.1).2) ||| (2 ^ (i1 % Cl))))), (2, .int (nI (((mDs r Cl i1 x.1).1) ||| (2 ^ (i1 / Cl))))), (7, .int (nI (2 ^ (i1 % Cl)))), (6, .int (nI (2 ^ (i1 / Cl)))), (0, .ref (γ 0)), (1, .int (nI q))]) hx hb 1 i1 dX1_sensed_119 hl rfl (by decide) rfl (fun ls hl => ?_)
              refine lv_goto (tgt := 20) hx hb dX1_sensed_122 (by decide) ?_
              refine ih1 s.heap [] ls (by omega) ⟨?_, rfl, rfl⟩
              · obtain ⟨hd1, hd2⟩ := sen_D (r := r) (Cl := Cl) (k := i1) (x := x.1) c_73 (by rw [hb1, hb2]; decide)
                rw [decide_eq_false hd2, hd1]
                exact lv_sub hl [0, 3, 2, 1, 6, 7] rfl
            · exact absurd c_100 (by decide)
        · have hb1 : (mDs r Cl i1 x.1).1.testBit (i1 / Cl) = true := by
            cases hq : (mDs r Cl i1 x.1).1.testBit (i1 / Cl)
            · exact absurd ((nb_and0 (by omega) (by omega)).mpr hq) c_80
            · rfl
          refine lv_iconst (v := 1) hx hb dX1_sensed_83 (by decide) ?_
          refine lv_goto (tgt := 88) hx hb dX1_sensed_84 (by decide) ?_
          refine lv_iload_n hx hb dX1_sensed_88 rfl (lv_at hl 4 rfl) ?_
          refine lv_iload hx hb dX1_sensed_89 (lv_at hl 0 rfl) ?_
          refine lv_iand hx hb dX1_sensed_91 ?_
          refine lv_if_eq (tgt := 99) hx hb dX1_sensed_92 (by decide) (fun c_92 => ?_) (fun c_92 => ?_)
          · have hb2 : (mDs r Cl i1 x.1).2.testBit (i1 % Cl) = false := (nb_and0 (by omega) (by omega)).mp c_92
            refine lv_iconst (v := 0) hx hb dX1_sensed_99 (by decide) ?_
            refine ol_icmp_ne hx hb 1 0 (by omega) (by omega) (tgt := 106) dX1_sensed_100 (by decide) (fun c_100 => ?_) (fun c_100 => ?_)
            · refine lv_iload_n hx hb dX1_sensed_106 rfl (lv_at hl 3 rfl) ?_
              refine lv_iload hx hb dX1_sensed_107 (lv_at hl 1 rfl) ?_
              refine ol_ior hx hb ((mDs r Cl i1 x.1).1) (2 ^ (i1 / Cl)) dX1_sensed_109 ?_
              refine lv_istore_n (lv' := [(2, .int (nI (((mDs r Cl i1 x.1).1) ||| (2 ^ (i1 / Cl))))), (7, .int (nI (2 ^ (i1 % Cl)))), (6, .int (nI (2 ^ (i1 / Cl)))), (5, .int (nI i1)), (3, .int (nI ((mDs r Cl i1 x.1).2))), (4, .int (zB (!decide (mDs r Cl i1 x.1 = x.1)))), (0, .ref (γ 0)), (1, .int (nI q))]) hx hb dX1_sensed_110 rfl hl (by decide) rfl (fun ls hl => ?_)
              refine lv_iload_n hx hb dX1_sensed_111 rfl (lv_at hl 4 rfl) ?_
              refine lv_iload hx hb dX1_sensed_112 (lv_at hl 1 rfl) ?_
              refine ol_ior hx hb ((mDs r Cl i1 x.1).2) (2 ^ (i1 % Cl)) dX1_sensed_114 ?_
              refine lv_istore_n (lv' := [(3, .int (nI (((mDs r Cl i1 x.1).2) ||| (2 ^ (i1 % Cl))))), (2, .int (nI (((mDs r Cl i1 x.1).1) ||| (2 ^ (i1 / Cl))))), (7, .int (nI (2 ^ (i1 % Cl)))), (6, .int (nI (2 ^ (i1 / Cl)))), (5, .int (nI i1)), (4, .int (zB (!decide (mDs r Cl i1 x.1 = x.1)))), (0, .ref (γ 0)), (1, .int (nI q))]) hx hb dX1_sensed_115 rfl hl (by decide) rfl (fun ls hl => ?_)
              refine lv_iconst (v := 1) hx hb dX1_sensed_116 (by decide) ?_
              refine lv_istore (lv' := [(4, .int 1), (3, .int (nI (((mDs r Cl i1 x.1).2) ||| (2 ^ (i1 % Cl))))), (2, .int (nI (((mDs r Cl i1 x.1).1) ||| (2 ^ (i1 / Cl))))), (7, .int (nI (2 ^ (i1 % Cl)))), (6, .int (nI (2 ^ (i1 / Cl)))), (5, .int (nI i1)), (0, .ref (γ 0)), (1, .int (nI q))]) hx hb dX1_sensed_117 hl (by decide) rfl (fun ls hl => ?_)
              refine ol_iinc (k := 5) (lv' := [(5, .int (nI (i1 + 1))), (4, .int 1), (3, .int (nI (((mDs r Cl i1 x.1).2) ||| (2 ^ (i1 % Cl))))), (2, .int (nI (((mDs r Cl i1 x.1).1) ||| (2 ^ (i1 / Cl))))), (7, .int (nI (2 ^ (i1 % Cl)))), (6, .int (nI (2 ^ (i1 / Cl)))), (0, .ref (γ 0)), (1, .int (nI q))]) hx hb 1 i1 dX1_sensed_119 hl rfl (by decide) rfl (fun ls hl => ?_)
              refine lv_goto (tgt := 20) hx hb dX1_sensed_122 (by decide) ?_
              refine ih1 s.heap [] ls (by omega) ⟨?_, rfl, rfl⟩
              · obtain ⟨hd1, hd2⟩ := sen_D (r := r) (Cl := Cl) (k := i1) (x := x.1) c_73 (by rw [hb1, hb2]; decide)
                rw [decide_eq_false hd2, hd1]
                exact lv_sub hl [0, 3, 2, 1, 6, 7] rfl
            · exact absurd c_100 (by decide)
          · have hb2 : (mDs r Cl i1 x.1).2.testBit (i1 % Cl) = true := by
              cases hq : (mDs r Cl i1 x.1).2.testBit (i1 % Cl)
              · exact absurd ((nb_and0 (by omega) (by omega)).mpr hq) c_92
              · rfl
            refine lv_iconst (v := 1) hx hb dX1_sensed_95 (by decide) ?_
            refine lv_goto (tgt := 100) hx hb dX1_sensed_96 (by decide) ?_
            refine ol_icmp_ne hx hb 1 1 (by omega) (by omega) (tgt := 106) dX1_sensed_100 (by decide) (fun c_100 => ?_) (fun c_100 => ?_)
            · exact absurd c_100 (by decide)
            · refine lv_goto (tgt := 119) hx hb dX1_sensed_103 (by decide) ?_
              refine ol_iinc (k := 2) (lv' := [(5, .int (nI (i1 + 1))), (7, .int (nI (2 ^ (i1 % Cl)))), (6, .int (nI (2 ^ (i1 / Cl)))), (2, .int (nI ((mDs r Cl i1 x.1).1))), (3, .int (nI ((mDs r Cl i1 x.1).2))), (4, .int (zB (!decide (mDs r Cl i1 x.1 = x.1)))), (0, .ref (γ 0)), (1, .int (nI q))]) hx hb 1 i1 dX1_sensed_119 hl rfl (by decide) rfl (fun ls hl => ?_)
              refine lv_goto (tgt := 20) hx hb dX1_sensed_122 (by decide) ?_
              refine ih1 s.heap [] ls (by omega) ⟨?_, rfl, rfl⟩
              · rw [sen_B (hb1.trans hb2.symm)]
                exact lv_sub hl [0, 3, 4, 5, 6, 7] rfl
