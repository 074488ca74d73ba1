/-! THE COMPONENT's STATE: corners -/
theorem idx_lt {Rw Cl i j : Nat} (hi : i < Rw) (hj : j < Cl) : i * Cl + j < Rw * Cl := by
  have : (i + 1) * Cl ≤ Rw * Cl := Nat.mul_le_mul_right _ hi
  rw [Nat.add_mul, Nat.one_mul] at this
  omega
theorem ccs {r : Nat → Int32} {Cl i j o d : Nat} (hj : j < Cl) : mCcI r Cl (i * Cl + j) o (d + 1) = (mCcI r Cl (i * Cl + j) o d || (!decide (o = i) && (!decide (d = j) && (sn r (i * Cl + d) && (sn r (o * Cl + j) && sn r (o * Cl + d)))))) := by
  have h0 : 0 < Cl := by omega
  have e1 : (i * Cl + j) / Cl = i := by rw [Nat.add_comm, Nat.add_mul_div_right _ _ h0, Nat.div_eq_of_lt hj, Nat.zero_add]
  have e2 : (i * Cl + j) % Cl = j := by rw [Nat.add_comm, Nat.add_mul_mod_self_right, Nat.mod_eq_of_lt hj]
  rw [mCcI_s, e1, e2, Nat.mul_comm Cl i, Nat.mul_comm Cl o]
theorem ccs_i {r : Nat → Int32} {Cl i j : Nat} (hj : j < Cl) (n : Nat) : mCcI r Cl (i * Cl + j) i n = false := by
  induction n with
  | zero => rfl
  | succ n ih => rw [ccs hj, ih]; simp
theorem ccs_n {r : Nat → Int32} {Cl i j o : Nat} (hj : j < Cl) (h : sn r (o * Cl + j) = false) (n : Nat) : mCcI r Cl (i * Cl + j) o n = false := by
  induction n with
  | zero => rfl
  | succ n ih => rw [ccs hj, ih, h]; simp
theorem cco_t {r : Nat → Int32} {Rw Cl k o d : Nat} (ho : o < Rw) (hd : d < Cl) (h : mCcI r Cl k o (d + 1) = true) : mCorner r Rw Cl k = true := by
  unfold mCorner mCcO
  rw [List.any_eq_true]
  refine ⟨o, List.mem_range.mpr ho, ?_⟩
  unfold mCcI at h ⊢
  rw [List.any_eq_true] at h ⊢
  obtain ⟨x, hx, hh⟩ := h
  exact ⟨x, List.mem_range.mpr (by have := List.mem_range.mp hx; omega), hh⟩
set_option maxHeartbeats 4000000 in
set_option maxRecDepth 100000 in
theorem cr_isCorner (l : Launch) (G : oG) (Z : oZ) (γ : Nat → Nat) (X : Nat → Nat → Option Nat) (E : Nat → Nat → Nat) (r : Nat → Int32) (f : Nat → UInt32) (Rw Cl : Nat) (i : Nat) (j : Nat) (hg : mG r Rw Cl) (hsk : sK γ X E (Rw * Cl)) (hi : i < Rw) (hj : j < Cl) (hsi : sI r (Rw * Cl)) : Met l yX1_isCorner (ws_ yX1_isCorner cX1_isCorner 5 (some .boolean)) ({ frames := 4, cells := 0, slots := 0, locals := 86 }) (oPc1 G Z [.ref (γ 0), .int (nI i), .int (nI j)] (fun H => sR G γ X E r f (Rw * Cl) H)) (oR (some (.int (zB (mCorner r Rw Cl (i * Cl + j)))))) 0 0 (fun _ => False) := by
  refine Met.ofW (cc := cX1_isCorner) (maxL := 5) (ret := (some .boolean)) (by decide) rfl ?_
  intro p e s m args below meth c s₁ B hml hv
  obtain ⟨rfl, hP, hE⟩ := hv
  have hx := B.exec
  have hb := B.bytes
  have hr := B.returns
  have hts := atoms_spec (ws := ws_ yX1_isCorner cX1_isCorner 5 (some .boolean)) B.pre
  have hts : ∀ w ∈ lw_all, w.before _ s = true := fun w h => hts w (List.mem_cons_of_mem _ h)
  have hown : s.vm.findClass RX1 = some m.cls := findClass_of_methodNamed B.named
  have hlocks := B.notSynchronized
  have hl := lv_entry ([.ref (γ 0), .int (nI i), .int (nI j)]) (n := 5) (Nat.le_of_ble_eq_true rfl)
  rw [lg_entry_eq]
  generalize (lg_sl ([.ref (γ 0), .int (nI i), .int (nI j)]) ++ List.replicate (5 - (lg_sl ([.ref (γ 0), .int (nI i), .int (nI j)])).length) Slot.unset).toArray = ls at hl ⊢
  replace hl : lv_has ls 5 [(0, .ref (γ 0)), (1, .int (nI i)), (2, .int (nI j))] := hl
  have hgn := mG_n hg
  have hg' := hg
  obtain ⟨hg0, hg1, hg2, hg3, hg4, hg5⟩ := hg'
  obtain ⟨hF, hK⟩ := hP
  have hsk1 := hsk
  obtain ⟨hk1, hk2, hk3, hk4⟩ := hsk1
  refine lv_iconst (v := 0) hx hb dX1_isCorner_0 (by decide) ?_
  refine lv_istore_n (lv' := [(3, .int 0), (0, .ref (γ 0)), (1, .int (nI i)), (2, .int (nI j))]) hx hb dX1_isCorner_1 rfl hl (by decide) rfl (fun ls hl => ?_)
  refine ol_for (P := fun i1 H1 locs1 ls => lv_has ls 5 [(3, .int (nI i1)), (0, .ref (γ 0)), (1, .int (nI i)), (2, .int (nI j))] ∧ mCcO r Cl (i * Cl + j) i1 = false ∧ H1 = s.heap ∧ locs1 = []) Rw 0 (by omega) ⟨lv_sub hl [0, 1, 2, 3] rfl, rfl, rfl, rfl⟩ (fun i1 H1 locs1 ls hi1 hI ih1 => ?_)
  obtain ⟨hl, hno, rfl, rfl⟩ := hI
  refine lv_iload_n hx hb dX1_isCorner_2 rfl (lv_at hl 0 rfl) ?_
  refine lv_aload_n hx hb dX1_isCorner_3 rfl (lv_at hl 1 rfl) ?_
  refine va_get (D := G.1) (ci := 1) (v := .int (r 0)) (C := RX1) (T := TX1) (N := 16) hx hb hts in_X1 hown hE.1.1 hF 0 rfl rfl 10 (by decide) (hts _ q259) (fun _ h9 => h9) rfl dX1_isCorner_4 ?_
  refine ol_top (y := nI Rw) hg0 ?_
  refine ol_icmp_ge hx hb i1 Rw (by omega) (by omega) (tgt := 88) dX1_isCorner_7 (by decide) (fun c_7 => ?_) (fun c_7 => ?_)
  · have e1 : i1 = Rw := by omega
    rw [e1] at hno
    refine lv_iconst (v := 0) hx hb dX1_isCorner_88 (by decide) ?_
    exact ol_zretR hx hb hr hlocks rfl (by rw [show mCorner r Rw Cl (i * Cl + j) = false from hno]; rfl) dX1_isCorner_89
  · have hx1 := idx_lt (Rw := Rw) (show i1 < Rw by omega) hj
    refine lv_iload_n hx hb dX1_isCorner_10 rfl (lv_at hl 0 rfl) ?_
    refine lv_iload_n hx hb dX1_isCorner_11 rfl (lv_at hl 2 rfl) ?_
    refine ol_icmp_eq hx hb i1 i (by omega) (by omega) (tgt := 82) dX1_isCorner_12 (by decide) (fun c_12 => ?_) (fun c_12 => ?_)
    · refine ol_iinc (k := 0) (lv' := [(3, .int (nI (i1 + 1))), (0, .ref (γ 0)), (1, .int (nI i)), (2, .int (nI j))]) hx hb 1 i1 dX1_isCorner_82 hl rfl (by decide) rfl (fun ls hl => ?_)
      refine lv_goto (tgt := 2) hx hb dX1_isCorner_85 (by decide) ?_
      exact ih1 s.heap [] ls (by omega) ⟨lv_sub hl [0, 1, 2, 3] rfl, (by rw [mCcO_s, hno, Bool.false_or]; rw [c_12]; exact ccs_i hj _), rfl, rfl⟩
    · refine lv_aload_n hx hb dX1_isCorner_15 rfl (lv_at hl 1 rfl) ?_
      refine lv_iload_n hx hb dX1_isCorner_16 rfl (lv_at hl 0 rfl) ?_
      refine lv_iload_n hx hb dX1_isCorner_17 rfl (lv_at hl 3 rfl) ?_
      refine ol_cR (st1 := [.ref (E 0 (i1 * Cl + j))]) (va_runV (As := [.int (nI i1), .int (nI j)]) (rest := []) ⟨hx, hb, hml, hown, hts⟩ (cr_at l G Z γ X E r f Rw Cl i1 j hg hsk (idx_lt (Rw := Rw) (Cl := Cl) (by omega) (by omega))) (cwV 2 hts (lw_V q595 q596 q597 q58 q598) rfl rfl rfl (by decide +kernel) ⟨Nat.le_of_ble_eq_true rfl, Nat.le_of_ble_eq_true rfl⟩) (oPc1.preV hE (hE.1.recv (ci := 1) (hF 0 _ rfl) rfl) ⟨hF, hK⟩) rfl rfl hl.1 rfl (lv_room (Nat.le_of_ble_eq_true rfl)) dX1_isCorner_18 ⟨Nat.le_of_ble_eq_true rfl, Nat.le_of_ble_eq_true rfl⟩) rfl ?_
      refine ol_cR (st1 := [.int (zB (!decide (r (68 + (i1 * Cl + j)) = -5)))]) (va_runV (As := []) (rest := []) ⟨hx, hb, hml, hown, hts⟩ (cr_isSeen l G (E 0 (i1 * Cl + j)) (r (260 + (i1 * Cl + j))) (mSh r (nI (i1 * Cl + j))) (r (20 + (i1 * Cl + j))) (r (68 + (i1 * Cl + j))) (r (116 + (i1 * Cl + j))) (r (164 + (i1 * Cl + j))) (r (212 + (i1 * Cl + j)))) (cwV 0 hts (lw_V q599 q446 q447 q72 q448) rfl rfl rfl (by decide +kernel) ⟨Nat.le_of_ble_eq_true rfl, Nat.le_of_ble_eq_true rfl⟩) (oPc.preV hE.1 (hE.1.recv (ci := 4) ((oP_1 (hK (i1 * Cl + j) (by omega))) 0 _ rfl) rfl) (oP_1 (hK (i1 * Cl + j) (by omega)))) rfl rfl hl.1 rfl (lv_room (Nat.le_of_ble_eq_true rfl)) dX1_isCorner_21 ⟨Nat.le_of_ble_eq_true rfl, Nat.le_of_ble_eq_true rfl⟩) rfl ?_
      refine ol_top (y := zB (sn r (i1 * Cl + j))) (congrArg zB (oNg_d (hsi (i1 * Cl + j) (by omega)).2.1)) ?_
      refine ol_if_neB hx hb (sn r (i1 * Cl + j)) (tgt := 30) dX1_isCorner_24 (by decide) (fun c_24 => ?_) (fun c_24 => ?_)
      · refine lv_iconst (v := 0) hx hb dX1_isCorner_30 (by decide) ?_
        refine lv_istore (lv' := [(4, .int 0), (3, .int (nI i1)), (0, .ref (γ 0)), (1, .int (nI i)), (2, .int (nI j))]) hx hb dX1_isCorner_31 hl (by decide) rfl (fun ls hl => ?_)
        refine ol_for (P := fun i2 H1 locs1 ls => lv_has ls 5 [(4, .int (nI i2)), (3, .int (nI i1)), (0, .ref (γ 0)), (1, .int (nI i)), (2, .int (nI j))] ∧ mCcI r Cl (i * Cl + j) i1 i2 = false ∧ H1 = s.heap ∧ locs1 = []) Cl 0 (by omega) ⟨lv_sub hl [0, 1, 2, 3, 4] rfl, rfl, rfl, rfl⟩ (fun i2 H1 locs1 ls hi2 hI ih2 => ?_)
        obtain ⟨hl, hno2, rfl, rfl⟩ := hI
        refine lv_iload hx hb dX1_isCorner_33 (lv_at hl 0 rfl) ?_
        refine lv_aload_n hx hb dX1_isCorner_35 rfl (lv_at hl 2 rfl) ?_
        refine va_get (D := G.1) (ci := 1) (v := .int (r 1)) (C := RX1) (T := TX1) (N := 16) hx hb hts in_X1 hown hE.1.1 hF 0 rfl rfl 11 (by decide) (hts _ q261) (fun _ h9 => h9) rfl dX1_isCorner_36 ?_
        refine ol_top (y := nI Cl) hg1 ?_
        refine ol_icmp_ge hx hb i2 Cl (by omega) (by omega) (tgt := 82) dX1_isCorner_39 (by decide) (fun c_39 => ?_) (fun c_39 => ?_)
        · have e2 : i2 = Cl := by omega
          rw [e2] at hno2
          refine ol_iinc (k := 1) (lv' := [(3, .int (nI (i1 + 1))), (4, .int (nI i2)), (0, .ref (γ 0)), (1, .int (nI i)), (2, .int (nI j))]) hx hb 1 i1 dX1_isCorner_82 hl rfl (by decide) rfl (fun ls hl => ?_)
          refine lv_goto (tgt := 2) hx hb dX1_isCorner_85 (by decide) ?_
          exact ih1 s.heap [] ls (by omega) ⟨lv_sub hl [0, 2, 3, 4] rfl, (by rw [mCcO_s, hno, Bool.false_or]; exact hno2), rfl, rfl⟩
        · have hx2 := idx_lt (Rw := Rw) hi (show i2 < Cl by omega)
          have hx3 := idx_lt (Rw := Rw) (show i1 < Rw by omega) (show i2 < Cl by omega)
          refine lv_iload hx hb dX1_isCorner_42 (lv_at hl 0 rfl) ?_
          refine lv_iload_n hx hb dX1_isCorner_44 rfl (lv_at hl 4 rfl) ?_
          refine ol_icmp_eq hx hb i2 j (by omega) (by omega) (tgt := 76) dX1_isCorner_45 (by decide) (fun c_45 => ?_) (fun c_45 => ?_)
          · refine ol_iinc (k := 0) (lv' := [(4, .int (nI (i2 + 1))), (3, .int (nI i1)), (0, .ref (γ 0)), (1, .int (nI i)), (2, .int (nI j))]) hx hb 1 i2 dX1_isCorner_76 hl rfl (by decide) rfl (fun ls hl => ?_)
            refine lv_goto (tgt := 33) hx hb dX1_isCorner_79 (by decide) ?_
            exact ih2 s.heap [] ls (by omega) ⟨lv_sub hl [0, 1, 2, 3, 4] rfl, (by rw [ccs hj, hno2, Bool.false_or]; simp [c_45]), rfl, rfl⟩
          · refine lv_aload_n hx hb dX1_isCorner_48 rfl (lv_at hl 2 rfl) ?_
            refine lv_iload_n hx hb dX1_isCorner_49 rfl (lv_at hl 3 rfl) ?_
            refine lv_iload hx hb dX1_isCorner_50 (lv_at hl 0 rfl) ?_
            refine ol_cR (st1 := [.ref (E 0 (i * Cl + i2))]) (va_runV (As := [.int (nI i), .int (nI i2)]) (rest := []) ⟨hx, hb, hml, hown, hts⟩ (cr_at l G Z γ X E r f Rw Cl i i2 hg hsk (idx_lt (Rw := Rw) (Cl := Cl) (by omega) (by omega))) (cwV 2 hts (lw_V q595 q596 q597 q58 q598) rfl rfl rfl (by decide +kernel) ⟨Nat.le_of_ble_eq_true rfl, Nat.le_of_ble_eq_true rfl⟩) (oPc1.preV hE (hE.1.recv (ci := 1) (hF 0 _ rfl) rfl) ⟨hF, hK⟩) rfl rfl hl.1 rfl (lv_room (Nat.le_of_ble_eq_true rfl)) dX1_isCorner_52 ⟨Nat.le_of_ble_eq_true rfl, Nat.le_of_ble_eq_true rfl⟩) rfl ?_
            refine ol_cR (st1 := [.int (zB (!decide (r (68 + (i * Cl + i2)) = -5)))]) (va_runV (As := []) (rest := []) ⟨hx, hb, hml, hown, hts⟩ (cr_isSeen l G (E 0 (i * Cl + i2)) (r (260 + (i * Cl + i2))) (mSh r (nI (i * Cl + i2))) (r (20 + (i * Cl + i2))) (r (68 + (i * Cl + i2))) (r (116 + (i * Cl + i2))) (r (164 + (i * Cl + i2))) (r (212 + (i * Cl + i2)))) (cwV 0 hts (lw_V q599 q446 q447 q72 q448) rfl rfl rfl (by decide +kernel) ⟨Nat.le_of_ble_eq_true rfl, Nat.le_of_ble_eq_true rfl⟩) (oPc.preV hE.1 (hE.1.recv (ci := 4) ((oP_1 (hK (i * Cl + i2) (by omega))) 0 _ rfl) rfl) (oP_1 (hK (i * Cl + i2) (by omega)))) rfl rfl hl.1 rfl (lv_room (Nat.le_of_ble_eq_true rfl)) dX1_isCorner_55 ⟨Nat.le_of_ble_eq_true rfl, Nat.le_of_ble_eq_true rfl⟩) rfl ?_
            refine ol_top (y := zB (sn r (i * Cl + i2))) (congrArg zB (oNg_d (hsi (i * Cl + i2) (by omega)).2.1)) ?_
            refine ol_if_eqB hx hb (sn r (i * Cl + i2)) (tgt := 76) dX1_isCorner_58 (by decide) (fun c_58 => ?_) (fun c_58 => ?_)
            · refine ol_iinc (k := 0) (lv' := [(4, .int (nI (i2 + 1))), (3, .int (nI i1)), (0, .ref (γ 0)), (1, .int (nI i)), (2, .int (nI j))]) hx hb 1 i2 dX1_isCorner_76 hl rfl (by decide) rfl (fun ls hl => ?_)
              refine lv_goto (tgt := 33) hx hb dX1_isCorner_79 (by decide) ?_
              exact ih2 s.heap [] ls (by omega) ⟨lv_sub hl [0, 1, 2, 3, 4] rfl, (by rw [ccs hj, hno2, Bool.false_or]; simp [c_45, c_58]), rfl, rfl⟩
            · refine lv_aload_n hx hb dX1_isCorner_61 rfl (lv_at hl 2 rfl) ?_
              refine lv_iload_n hx hb dX1_isCorner_62 rfl (lv_at hl 1 rfl) ?_
              refine lv_iload hx hb dX1_isCorner_63 (lv_at hl 0 rfl) ?_
              refine ol_cR (st1 := [.ref (E 0 (i1 * Cl + i2))]) (va_runV (As := [.int (nI i1), .int (nI i2)]) (rest := []) ⟨hx, hb, hml, hown, hts⟩ (cr_at l G Z γ X E r f Rw Cl i1 i2 hg hsk (idx_lt (Rw := Rw) (Cl := Cl) (by omega) (by omega))) (cwV 2 hts (lw_V q595 q596 q597 q58 q598) rfl rfl rfl (by decide +kernel) ⟨Nat.le_of_ble_eq_true rfl, Nat.le_of_ble_eq_true rfl⟩) (oPc1.preV hE (hE.1.recv (ci := 1) (hF 0 _ rfl) rfl) ⟨hF, hK⟩) rfl rfl hl.1 rfl (lv_room (Nat.le_of_ble_eq_true rfl)) dX1_isCorner_65 ⟨Nat.le_of_ble_eq_true rfl, Nat.le_of_ble_eq_true rfl⟩) rfl ?_
              refine ol_cR (st1 := [.int (zB (!decide (r (68 + (i1 * Cl + i2)) = -5)))]) (va_runV (As := []) (rest := []) ⟨hx, hb, hml, hown, hts⟩ (cr_isSeen l G (E 0 (i1 * Cl + i2)) (r (260 + (i1 * Cl + i2))) (mSh r (nI (i1 * Cl + i2))) (r (20 + (i1 * Cl + i2))) (r (68 + (i1 * Cl + i2))) (r (116 + (i1 * Cl + i2))) (r (164 + (i1 * Cl + i2))) (r (212 + (i1 * Cl + i2)))) (cwV 0 hts (lw_V q599 q446 q447 q72 q448) rfl rfl rfl (by decide +kernel) ⟨Nat.le_of_ble_eq_true rfl, Nat.le_of_ble_eq_true rfl⟩) (oPc.preV hE.1 (hE.1.recv (ci := 4) ((oP_1 (hK (i1 * Cl + i2) (by omega))) 0 _ rfl) rfl) (oP_1 (hK (i1 * Cl + i2) (by omega)))) rfl rfl hl.1 rfl (lv_room (Nat.le_of_ble_eq_true rfl)) dX1_isCorner_68 ⟨Nat.le_of_ble_eq_true rfl, Nat.le_of_ble_eq_true rfl⟩) rfl ?_
              refine ol_top (y := zB (sn r (i1 * Cl + i2))) (congrArg zB (oNg_d (hsi (i1 * Cl + i2) (by omega)).2.1)) ?_
              refine ol_if_eqB hx hb (sn r (i1 * Cl + i2)) (tgt := 76) dX1_isCorner_71 (by decide) (fun c_71 => ?_) (fun c_71 => ?_)
              · refine ol_iinc (k := 0) (lv' := [(4, .int (nI (i2 + 1))), (3, .int (nI i1)), (0, .ref (γ 0)), (1, .int (nI i)), (2, .int (nI j))]) hx hb 1 i2 dX1_isCorner_76 hl rfl (by decide) rfl (fun ls hl => ?_)
                refine lv_goto (tgt := 33) hx hb dX1_isCorner_79 (by decide) ?_
                exact ih2 s.heap [] ls (by omega) ⟨lv_sub hl [0, 1, 2, 3, 4] rfl, (by rw [ccs hj, hno2, Bool.false_or]; simp [c_45, c_58, c_71]), rfl, rfl⟩
              · refine lv_iconst (v := 1) hx hb dX1_isCorner_74 (by decide) ?_
                exact ol_zretR hx hb hr hlocks rfl (by rw [cco_t (show i1 < Rw by omega) (show i2 < Cl by omega) (by rw [ccs hj, hno2, Bool.false_or]; simp [c_12, c_45, c_24, c_58, c_71])]; rfl) dX1_isCorner_75
      · refine lv_goto (tgt := 82) hx hb dX1_isCorner_27 (by decide) ?_
        refine ol_iinc (k := 0) (lv' := [(3, .int (nI (i1 + 1))), (0, .ref (γ 0)), (1, .int (nI i)), (2, .int (nI j))]) hx hb 1 i1 dX1_isCorner_82 hl rfl (by decide) rfl (fun ls hl => ?_)
        refine lv_goto (tgt := 2) hx hb dX1_isCorner_85 (by decide) ?_
        exact ih1 s.heap [] ls (by omega) ⟨lv_sub hl [0, 1, 2, 3] rfl, (by rw [mCcO_s, hno, Bool.false_or]; exact ccs_n hj c_24 _), rfl, rfl⟩
