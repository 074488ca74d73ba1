/-! THE COMPONENT's STATE: its cells, what is read of them -/
def p2 {α : Type} (x y : α) : Nat → α := fun q => if q = 0 then x else y
def p3 {α : Type} (x y z : α) : Nat → α := fun q => if q = 0 then x else if q = 1 then y else z
/-- key k's cell -/
abbrev kC (E : Nat → Nat → Nat) (r : Nat → Int32) (k : Nat) : Nat × va_E := (E 0 k, .inr (4, [.int (r (260 + k)), .int (mSh r (nI k)), .int (r (20 + k)), .int (r (68 + k)), .int (r (116 + k)), .int (r (164 + k)), .int (r (212 + k))]))
def mI (x m : Int32) : Nat := if x < m then cN x else cN m
/-- the state's cells of fixed shape; γ: addresses, capacities, counts of changes; X: what the lists' arrays hold -/
abbrev sF (G : oG) (γ : Nat → Nat) (X : Nat → Nat → Option Nat) (r : Nat → Int32) (f : Nat → UInt32) (n : Nat) : va_W := [
  (γ 0, .inr (1, [.ref (γ 1), .ref (γ 5), .ref (γ 9), .ref (γ 14), .ref (γ 27), .ref (γ 28), .ref (γ 29), .ref (γ 30), .ref (γ 31), .ref (γ 32), .int (r 0), .int (r 1), .int (r 2), .int (r 9), .int (r 14), .int (r 15)])),
  (γ 1, .inr (9, [.int (nI (γ 4)), .ref (γ 2), .int (nI n)])), (γ 2, .inl (G.2 5, γ 3, .inr (.inr (.inr (.inr (X 0)))))),
  (γ 5, .inr (9, [.int (nI (γ 8)), .ref (γ 6), .int (nI (cN (r 16)))])),
  (γ 9, .inr (2, [.int (nI 16), .ref (γ 10)])), (γ 10, .inr (9, [.int (nI (γ 13)), .ref (γ 11), .int (nI (min (cN (r 9)) 16))])),
  (γ 14, .inr (9, [.int (nI (γ 16)), .ref (γ 15), .int (nI 2)])), (γ 15, .inl (G.2 5, 10, .inr (.inr (.inr (.inr (X 3)))))),
  (γ 17, .inr (2, [.int (nI 24), .ref (γ 18)])), (γ 18, .inr (9, [.int (nI (γ 21)), .ref (γ 19), .int (nI (min (cN (r 17)) 24))])),
  (γ 22, .inr (2, [.int (nI 24), .ref (γ 23)])), (γ 23, .inr (9, [.int (nI (γ 26)), .ref (γ 24), .int (nI (min (cN (r 18)) 24))])),
  (γ 27, .inl (G.2 0, 2, .inl (p2 (r 17) (r 18)))), (γ 28, .inl (G.2 0, 2, .inl (p2 (r 10) (r 11)))), (γ 29, .inl (G.2 0, 2, .inl (p2 (r 12) (r 13)))), (γ 30, .inl (G.2 1, 2, .inl (p2 (r 7) (r 8)))),
  (γ 31, .inl (G.2 6, 2, .inr (.inr (.inr (.inr (p2 (some (γ 33)) (some (γ 34)))))))), (γ 32, .inl (G.2 2, 3, .inr (.inr (.inl (p3 (f 4) (f 5) (f 6)))))),
  (γ 33, .inr (3, [.float (f 0), .float (f 2), .int (r 3)])), (γ 34, .inr (3, [.float (f 1), .float (f 3), .int (r 4)]))]
/-- what the reading methods ask of a state -/
abbrev sR (G : oG) (γ : Nat → Nat) (X : Nat → Nat → Option Nat) (E : Nat → Nat → Nat) (r : Nat → Int32) (f : Nat → UInt32) (n : Nat) (H : Heap) : Prop := va_P G.1 cl0 (sF G γ X r f n) H ∧ ∀ k, k < n → va_at G.1 cl0 (kC E r k) H
theorem oP_1 {D : va_G} {cl : List vw_C} {x : Nat × va_E} {H : Heap} (h : va_at D cl x H) : va_P D cl [x] H := oP_cons.mpr ⟨h, oP_iff.mpr (fun q hq => by cases hq)⟩
/-- the keys' list -/
def sK (γ : Nat → Nat) (X : Nat → Nat → Option Nat) (E : Nat → Nat → Nat) (n : Nat) : Prop := n ≤ 48 ∧ n ≤ γ 3 ∧ γ 3 ≤ 40000 ∧ ∀ k, k < n → X 0 k = some (E 0 k)
set_option maxHeartbeats 4000000 in
set_option maxRecDepth 100000 in
theorem cr_at (l : Launch) (G : oG) (Z : oZ) (γ : Nat → Nat) (X : Nat → Nat → Option Nat) (E : Nat → Nat → Nat) (r : Nat → Int32) (f : Nat → UInt32) (Rw Cl : Nat) (i : Nat) (j : Nat) (hg : mG r Rw Cl) (hsk : sK γ X E (Rw * Cl)) (hij : i * Cl + j < Rw * Cl) : Met l yX1_at (ws_ yX1_at cX1_at 3 (some (.object "BlanketKeys$Key"))) ({ frames := 3, cells := 0, slots := 0, locals := 64 }) (oPc1 G Z [.ref (γ 0), .int (nI i), .int (nI j)] (fun H => sR G γ X E r f (Rw * Cl) H)) (oR (some (.ref (E 0 (i * Cl + j))))) 0 0 (fun _ => False) := by
  refine Met.ofW (cc := cX1_at) (maxL := 3) (ret := (some (.object "BlanketKeys$Key"))) (by decide) rfl ?_
  intro p e s m args below meth c s₁ B hml hv
  obtain ⟨rfl, hP, hE⟩ := hv
  have hx := B.exec
  have hb := B.bytes
  have hr := B.returns
  have hts := atoms_spec (ws := ws_ yX1_at cX1_at 3 (some (.object "BlanketKeys$Key"))) B.pre
  have hts : ∀ w ∈ lw_all, w.before _ s = true := fun w h => hts w (List.mem_cons_of_mem _ h)
  have hown : s.vm.findClass RX1 = some m.cls := findClass_of_methodNamed B.named
  have hlocks := B.notSynchronized
  have hl := lv_entry ([.ref (γ 0), .int (nI i), .int (nI j)]) (n := 3) (Nat.le_of_ble_eq_true rfl)
  rw [lg_entry_eq]
  generalize (lg_sl ([.ref (γ 0), .int (nI i), .int (nI j)]) ++ List.replicate (3 - (lg_sl ([.ref (γ 0), .int (nI i), .int (nI j)])).length) Slot.unset).toArray = ls at hl ⊢
  replace hl : lv_has ls 3 [(0, .ref (γ 0)), (1, .int (nI i)), (2, .int (nI j))] := hl
  have hgn := mG_n hg
  have hg' := hg
  obtain ⟨hg0, hg1, hg2, hg3, hg4, hg5⟩ := hg'
  obtain ⟨hF, hK⟩ := hP
  have hsk1 := hsk
  obtain ⟨hk1, hk2, hk3, hk4⟩ := hsk1
  refine lv_aload_n hx hb dX1_at_0 rfl (lv_at hl 0 rfl) ?_
  refine va_get (D := G.1) (ci := 1) (v := .ref (γ 1)) (C := RX1) (T := TX1) (N := 16) hx hb hts in_X1 hown hE.1.1 hF 0 rfl rfl 0 (by decide) (hts _ q239) (fun _ h9 => h9) rfl dX1_at_1 ?_
  refine lv_iload_n hx hb dX1_at_4 rfl (lv_at hl 1 rfl) ?_
  refine lv_aload_n hx hb dX1_at_5 rfl (lv_at hl 0 rfl) ?_
  refine va_get (D := G.1) (ci := 1) (v := .int (r 1)) (C := RX1) (T := TX1) (N := 16) hx hb hts in_X1 hown hE.1.1 hF 0 rfl rfl 11 (by decide) (hts _ q261) (fun _ h9 => h9) rfl dX1_at_6 ?_
  refine ol_top (y := nI Cl) hg1 ?_
  refine ol_imul hx hb i Cl dX1_at_9 ?_
  refine lv_iload_n hx hb dX1_at_10 rfl (lv_at hl 2 rfl) ?_
  refine ol_iadd hx hb (i * Cl) j dX1_at_11 ?_
  refine ol_cF5 (st1 := [.ref (E 0 (i * Cl + j))]) (va_runF (As := [.int (nI (i * Cl + j))]) (rest := []) (hE.1.1.1 9 _ rfl).2 ⟨hx, hb, hml, hown, hts⟩ (jr_get l G (γ 1) (γ 2) (Rw * Cl) (γ 3) (nI (γ 4)) (X 0) (i * Cl + j) (E 0 (i * Cl + j)) (by omega) (by omega) (by omega) (hk4 _ (by omega))) (va_cwF 1 hts (lw_F q458 q425 q427 q61 q429) rfl rfl rfl (hE.2.1 _ (List.mem_of_getElem? (i := 3) rfl)) (by decide +kernel) ⟨Nat.le_of_ble_eq_true rfl, Nat.le_of_ble_eq_true rfl⟩) (oPc.preV hE.1 (hE.1.recv (ci := 9) (hF 1 _ rfl) rfl) (hF.sub [1, 2] rfl)) rfl rfl hl.1 rfl (lv_room (Nat.le_of_ble_eq_true rfl)) dX1_at_12 ⟨Nat.le_of_ble_eq_true rfl, Nat.le_of_ble_eq_true rfl⟩) rfl ?_
  refine va_castE hx hb hown (hts _ q352) (hE.1.recv (ci := 4) ((oP_1 (hK (i * Cl + j) (by omega))) 0 _ rfl) rfl) dX1_at_17 ?_
  exact ol_aretR hx hb hr (Or.inl ⟨_, rfl⟩) hlocks rfl dX1_at_20
set_option maxHeartbeats 4000000 in
set_option maxRecDepth 100000 in
theorem cr_held (l : Launch) (G : oG) (Z : oZ) (γ : Nat → Nat) (X : Nat → Nat → Option Nat) (E : Nat → Nat → Nat) (r : Nat → Int32) (f : Nat → UInt32) (Rw Cl : Nat) (t : Int32) (hg : mG r Rw Cl) (hsk : sK γ X E (Rw * Cl))  : Met l yX1_held (ws_ yX1_held cX1_held 4 (some .int)) ({ frames := 3, cells := 0, slots := 0, locals := 64 }) (oPc1 G Z [.ref (γ 0), .int t] (fun H => sR G γ X E r f (Rw * Cl) H)) (oR (some (.int (nI (mHeld r (Rw * Cl) t))))) 0 0 (fun _ => False) := by
  refine Met.ofW (cc := cX1_held) (maxL := 4) (ret := (some .int)) (by decide) rfl ?_
  intro p e s m args below meth c s₁ B hml hv
  obtain ⟨rfl, hP, hE⟩ := hv
  have hx := B.exec
  have hb := B.bytes
  have hr := B.returns
  have hts := atoms_spec (ws := ws_ yX1_held cX1_held 4 (some .int)) B.pre
  have hts : ∀ w ∈ lw_all, w.before _ s = true := fun w h => hts w (List.mem_cons_of_mem _ h)
  have hown : s.vm.findClass RX1 = some m.cls := findClass_of_methodNamed B.named
  have hlocks := B.notSynchronized
  have hl := lv_entry ([.ref (γ 0), .int t]) (n := 4) (Nat.le_of_ble_eq_true rfl)
  rw [lg_entry_eq]
  generalize (lg_sl ([.ref (γ 0), .int t]) ++ List.replicate (4 - (lg_sl ([.ref (γ 0), .int t])).length) Slot.unset).toArray = ls at hl ⊢
  replace hl : lv_has ls 4 [(0, .ref (γ 0)), (1, .int t)] := hl
  have hgn := mG_n hg
  have hg' := hg
  obtain ⟨hg0, hg1, hg2, hg3, hg4, hg5⟩ := hg'
  obtain ⟨hF, hK⟩ := hP
  have hsk1 := hsk
  obtain ⟨hk1, hk2, hk3, hk4⟩ := hsk1
  refine lv_iconst (v := 0) hx hb dX1_held_0 (by decide) ?_
  refine lv_istore_n (lv' := [(2, .int 0), (0, .ref (γ 0)), (1, .int t)]) hx hb dX1_held_1 rfl hl (by decide) rfl (fun ls hl => ?_)
  refine lv_iconst (v := 0) hx hb dX1_held_2 (by decide) ?_
  refine lv_istore_n (lv' := [(3, .int 0), (2, .int 0), (0, .ref (γ 0)), (1, .int t)]) hx hb dX1_held_3 rfl hl (by decide) rfl (fun ls hl => ?_)
  obtain ⟨i1, hi1, hl1⟩ : ∃ i1 : Nat, i1 ≤ (Rw * Cl) ∧ lv_has ls 4 [(3, .int (nI i1)), (0, .ref (γ 0)), (1, .int t), (2, .int (nI (mHeld r i1 t)))] := ⟨0, by omega, lv_sub hl [0, 2, 3, 1] rfl⟩
  clear hl; have hl := hl1; clear hl1
  obtain ⟨d1, hd1⟩ : ∃ d1 : Nat, (Rw * Cl) < i1 + d1 := ⟨(Rw * Cl) + 1, by omega⟩
  induction d1 generalizing i1 ls with
  | zero => exact absurd hd1 (by omega)
  | succ d1 ih1 =>
    have hc1 : mHeld r i1 t ≤ i1 := rng_c_le _ _
    refine lv_iload_n hx hb dX1_held_4 rfl (lv_at hl 0 rfl) ?_
    refine lv_aload_n hx hb dX1_held_5 rfl (lv_at hl 1 rfl) ?_
    refine va_get (D := G.1) (ci := 1) (v := .ref (γ 1)) (C := RX1) (T := TX1) (N := 16) hx hb hts in_X1 hown hE.1.1 hF 0 rfl rfl 0 (by decide) (hts _ q239) (fun _ h9 => h9) rfl dX1_held_6 ?_
    refine ol_cF5 (st1 := [.int (nI (Rw * Cl)), .int (nI i1)]) (va_runF (As := []) (rest := [.int (nI i1)]) (hE.1.1.1 9 _ rfl).2 ⟨hx, hb, hml, hown, hts⟩ (jr_size l G (γ 1) (γ 2) (Rw * Cl) (nI (γ 4))) (va_cwF 0 hts (lw_F q456 q416 q418 q61 q420) rfl rfl rfl (hE.2.1 _ (List.mem_of_getElem? (i := 2) rfl)) (by decide +kernel) ⟨Nat.le_of_ble_eq_true rfl, Nat.le_of_ble_eq_true rfl⟩) (oPc.preV hE.1 (hE.1.recv (ci := 9) (hF 1 _ rfl) rfl) (hF.sub [1] rfl)) rfl rfl hl.1 rfl (lv_room (Nat.le_of_ble_eq_true rfl)) dX1_held_9 ⟨Nat.le_of_ble_eq_true rfl, Nat.le_of_ble_eq_true rfl⟩) rfl ?_
    refine ol_icmp_ge hx hb i1 (Rw * Cl) (by omega) (by omega) (tgt := 51) dX1_held_14 (by decide) (fun c_14 => ?_) (fun c_14 => ?_)
    · have e1 : i1 = Rw * Cl := by omega
      refine lv_iload_n hx hb dX1_held_51 rfl (lv_at hl 3 rfl) ?_
      exact ol_iretR hx hb hr hlocks rfl (by rw [e1]) dX1_held_52
    · refine lv_iload_n hx hb dX1_held_17 rfl (lv_at hl 3 rfl) ?_
      refine lv_aload_n hx hb dX1_held_18 rfl (lv_at hl 1 rfl) ?_
      refine va_get (D := G.1) (ci := 1) (v := .ref (γ 1)) (C := RX1) (T := TX1) (N := 16) hx hb hts in_X1 hown hE.1.1 hF 0 rfl rfl 0 (by decide) (hts _ q239) (fun _ h9 => h9) rfl dX1_held_19 ?_
      refine lv_iload_n hx hb dX1_held_22 rfl (lv_at hl 0 rfl) ?_
      refine ol_cF5 (st1 := [.ref (E 0 i1), .int (nI (mHeld r i1 t))]) (va_runF (As := [.int (nI i1)]) (rest := [.int (nI (mHeld r i1 t))]) (hE.1.1.1 9 _ rfl).2 ⟨hx, hb, hml, hown, hts⟩ (jr_get l G (γ 1) (γ 2) (Rw * Cl) (γ 3) (nI (γ 4)) (X 0) i1 (E 0 i1) (by omega) (by omega) (by omega) (hk4 _ (by omega))) (va_cwF 1 hts (lw_F q458 q425 q427 q61 q429) rfl rfl rfl (hE.2.1 _ (List.mem_of_getElem? (i := 3) rfl)) (by decide +kernel) ⟨Nat.le_of_ble_eq_true rfl, Nat.le_of_ble_eq_true rfl⟩) (oPc.preV hE.1 (hE.1.recv (ci := 9) (hF 1 _ rfl) rfl) (hF.sub [1, 2] rfl)) rfl rfl hl.1 rfl (lv_room (Nat.le_of_ble_eq_true rfl)) dX1_held_23 ⟨Nat.le_of_ble_eq_true rfl, Nat.le_of_ble_eq_true rfl⟩) rfl ?_
      refine va_castE hx hb hown (hts _ q352) (hE.1.recv (ci := 4) ((oP_1 (hK i1 (by omega))) 0 _ rfl) rfl) dX1_held_28 ?_
      refine va_getN (D := G.1) (ci := 4) (v := .int (r (20 + i1))) (C := RX4) (T := TX4) (N := 7) hx hb hts in_X4 hown hE.1.1 (oP_1 (hK i1 (by omega))) 0 rfl rfl 2 (by decide) (va_Nw.use rfl (hE.1.2.1 _ q365 rfl)) (fun _ h9 => h9) rfl dX1_held_31 ?_
      refine lv_iload_n hx hb dX1_held_34 rfl (lv_at hl 2 rfl) ?_
      refine lv_icmp_ne (tgt := 42) hx hb dX1_held_35 (by decide) (fun c_35 => ?_) (fun c_35 => ?_)
      · refine lv_iconst (v := 0) hx hb dX1_held_42 (by decide) ?_
        refine ol_iadd hx hb (mHeld r i1 t) 0 dX1_held_43 ?_
        refine lv_istore_n (lv' := [(2, .int (nI (mHeld r i1 t + 0))), (3, .int (nI i1)), (0, .ref (γ 0)), (1, .int t)]) hx hb dX1_held_44 rfl hl (by decide) rfl (fun ls hl => ?_)
        refine ol_iinc (k := 1) (lv' := [(3, .int (nI (i1 + 1))), (2, .int (nI (mHeld r i1 t + 0))), (0, .ref (γ 0)), (1, .int t)]) hx hb 1 i1 dX1_held_45 hl rfl (by decide) rfl (fun ls hl => ?_)
        refine lv_goto (tgt := 4) hx hb dX1_held_48 (by decide) ?_
        have hl : lv_has ls 4 [(3, .int (nI (i1 + 1))), (0, .ref (γ 0)), (1, .int t), (2, .int (nI (mHeld r (i1 + 1) t)))] := by
          rw [show mHeld r (i1 + 1) t = mHeld r i1 t + 0 from by simp [mHeld, rng_c, c_14, Nat.not_le.mpr c_14, c_35]]
          exact lv_sub hl [0, 2, 3, 1] rfl
        exact ih1 ls (i1 + 1) (by omega) hl (by omega)
      · refine lv_iconst (v := 1) hx hb dX1_held_38 (by decide) ?_
        refine lv_goto (tgt := 43) hx hb dX1_held_39 (by decide) ?_
        refine ol_iadd hx hb (mHeld r i1 t) 1 dX1_held_43 ?_
        refine lv_istore_n (lv' := [(2, .int (nI (mHeld r i1 t + 1))), (3, .int (nI i1)), (0, .ref (γ 0)), (1, .int t)]) hx hb dX1_held_44 rfl hl (by decide) rfl (fun ls hl => ?_)
        refine ol_iinc (k := 1) (lv' := [(3, .int (nI (i1 + 1))), (2, .int (nI (mHeld r i1 t + 1))), (0, .ref (γ 0)), (1, .int t)]) hx hb 1 i1 dX1_held_45 hl rfl (by decide) rfl (fun ls hl => ?_)
        refine lv_goto (tgt := 4) hx hb dX1_held_48 (by decide) ?_
        have hl : lv_has ls 4 [(3, .int (nI (i1 + 1))), (0, .ref (γ 0)), (1, .int t), (2, .int (nI (mHeld r (i1 + 1) t)))] := by
          rw [show mHeld r (i1 + 1) t = mHeld r i1 t + 1 from by simp [mHeld, rng_c, c_14, Nat.not_le.mpr c_14, c_35]]
          exact lv_sub hl [0, 2, 3, 1] rfl
        exact ih1 ls (i1 + 1) (by omega) hl (by omega)
/-- a number that is negative is NONE -/
def oNg (x : Int32) : Prop := x < 0 → x = -5
theorem oNg_d {x : Int32} (h : oNg x) : (!decide (x = -5)) = !decide (x < 0) := by
  by_cases hx : x < 0
  · rw [h hx]; decide
  · have : ¬ x = -5 := fun e => hx (by rw [e]; decide)
    simp [hx, this]
/-- what the rows of keys hold -/
def sI (r : Nat → Int32) (n : Nat) : Prop := ∀ k, k < n → oNg (r (20 + k)) ∧ oNg (r (68 + k)) ∧ oNg (r (212 + k)) ∧ (r (116 + k) = 0 ∨ r (116 + k) = 1)
/-- the shift keys: none, or a key of the keyboard, not the same for both -/
def sSh (r : Nat → Int32) (n : Nat) : Prop := ∀ q, q < 2 → r (5 + q) = -5 ∨ (cN (r (5 + q)) < n ∧ r (5 + q) = nI (cN (r (5 + q))) ∧ mSh r (nI (cN (r (5 + q)))) = nI q)
theorem mSh_q {r : Nat → Int32} {q k : Nat} (hq : q < 2) (h : mSh r (nI k) = nI q) : r (5 + q) = nI k := by
  unfold mSh at h
  rcases (show q = 0 ∨ q = 1 by omega) with rfl | rfl
  · split at h
    · assumption
    · split at h <;> exact absurd h (by decide)
  · split at h
    · exact absurd h (by decide)
    · split at h
      · assumption
      · exact absurd h (by decide)
theorem sSh_no {r : Nat → Int32} {n q : Nat} (h : sSh r n) (hq : q < 2) (hno : ∀ k, k < n → ¬ mSh r (nI k) = nI q) : r (5 + q) = -5 := by
  rcases h q hq with h1 | ⟨h1, -, h3⟩
  · exact h1
  · exact absurd h3 (hno _ h1)
set_option maxHeartbeats 4000000 in
set_option maxRecDepth 100000 in
theorem cr_shiftOf (l : Launch) (G : oG) (Z : oZ) (γ : Nat → Nat) (X : Nat → Nat → Option Nat) (E : Nat → Nat → Nat) (r : Nat → Int32) (f : Nat → UInt32) (Rw Cl : Nat) (q : Nat) (hg : mG r Rw Cl) (hsk : sK γ X E (Rw * Cl)) (hsh : sSh r (Rw * Cl)) (hq : q < 2) : Met l yX1_shiftOf (ws_ yX1_shiftOf cX1_shiftOf 3 (some .int)) ({ frames := 3, cells := 0, slots := 0, locals := 64 }) (oPc1 G Z [.ref (γ 0), .int (nI q)] (fun H => sR G γ X E r f (Rw * Cl) H)) (oR (some (.int (r (5 + q))))) 0 0 (fun _ => False) := by
  refine Met.ofW (cc := cX1_shiftOf) (maxL := 3) (ret := (some .int)) (by decide) rfl ?_
  intro p e s m args below meth c s₁ B hml hv
  obtain ⟨rfl, hP, hE⟩ := hv
  have hx := B.exec
  have hb := B.bytes
  have hr := B.returns
  have hts := atoms_spec (ws := ws_ yX1_shiftOf cX1_shiftOf 3 (some .int)) B.pre
  have hts : ∀ w ∈ lw_all, w.before _ s = true := fun w h => hts w (List.mem_cons_of_mem _ h)
  have hown : s.vm.findClass RX1 = some m.cls := findClass_of_methodNamed B.named
  have hlocks := B.notSynchronized
  have hl := lv_entry ([.ref (γ 0), .int (nI q)]) (n := 3) (Nat.le_of_ble_eq_true rfl)
  rw [lg_entry_eq]
  generalize (lg_sl ([.ref (γ 0), .int (nI q)]) ++ List.replicate (3 - (lg_sl ([.ref (γ 0), .int (nI q)])).length) Slot.unset).toArray = ls at hl ⊢
  replace hl : lv_has ls 3 [(0, .ref (γ 0)), (1, .int (nI q))] := hl
  have hgn := mG_n hg
  have hg' := hg
  obtain ⟨hg0, hg1, hg2, hg3, hg4, hg5⟩ := hg'
  obtain ⟨hF, hK⟩ := hP
  have hsk1 := hsk
  obtain ⟨hk1, hk2, hk3, hk4⟩ := hsk1
  refine lv_iconst (v := 0) hx hb dX1_shiftOf_0 (by decide) ?_
  refine lv_istore_n (lv' := [(2, .int 0), (0, .ref (γ 0)), (1, .int (nI q))]) hx hb dX1_shiftOf_1 rfl hl (by decide) rfl (fun ls hl => ?_)
  refine ol_for (P := fun i1 H1 locs1 ls => lv_has ls 3 [(2, .int (nI i1)), (0, .ref (γ 0)), (1, .int (nI q))] ∧ (∀ k, k < i1 → ¬ mSh r (nI k) = nI q) ∧ H1 = s.heap ∧ locs1 = []) (Rw * Cl) 0 (by omega) ⟨lv_sub hl [0, 1, 2] rfl, (fun k hk => absurd hk (by omega)), rfl, rfl⟩ (fun i1 H1 locs1 ls hi1 hI ih1 => ?_)
  obtain ⟨hl, hno, rfl, rfl⟩ := hI
  refine lv_iload_n hx hb dX1_shiftOf_2 rfl (lv_at hl 0 rfl) ?_
  refine lv_aload_n hx hb dX1_shiftOf_3 rfl (lv_at hl 1 rfl) ?_
  refine va_get (D := G.1) (ci := 1) (v := .ref (γ 1)) (C := RX1) (T := TX1) (N := 16) hx hb hts in_X1 hown hE.1.1 hF 0 rfl rfl 0 (by decide) (hts _ q239) (fun _ h9 => h9) rfl dX1_shiftOf_4 ?_
  refine ol_cF5 (st1 := [.int (nI (Rw * Cl)), .int (nI i1)]) (va_runF (As := []) (rest := [.int (nI i1)]) (hE.1.1.1 9 _ rfl).2 ⟨hx, hb, hml, hown, hts⟩ (jr_size l G (γ 1) (γ 2) (Rw * Cl) (nI (γ 4))) (va_cwF 0 hts (lw_F q456 q416 q418 q61 q420) rfl rfl rfl (hE.2.1 _ (List.mem_of_getElem? (i := 2) rfl)) (by decide +kernel) ⟨Nat.le_of_ble_eq_true rfl, Nat.le_of_ble_eq_true rfl⟩) (oPc.preV hE.1 (hE.1.recv (ci := 9) (hF 1 _ rfl) rfl) (hF.sub [1] rfl)) rfl rfl hl.1 rfl (lv_room (Nat.le_of_ble_eq_true rfl)) dX1_shiftOf_7 ⟨Nat.le_of_ble_eq_true rfl, Nat.le_of_ble_eq_true rfl⟩) rfl ?_
  refine ol_icmp_ge hx hb i1 (Rw * Cl) (by omega) (by omega) (tgt := 43) dX1_shiftOf_12 (by decide) (fun c_12 => ?_) (fun c_12 => ?_)
  · have hno2 := sSh_no hsh hq (fun k hk => hno k (by omega))
    refine lv_bipush (v := (-5)) hx hb dX1_shiftOf_43 (by decide) ?_
    exact ol_iretR hx hb hr hlocks rfl hno2.symm dX1_shiftOf_45
  · refine lv_aload_n hx hb dX1_shiftOf_15 rfl (lv_at hl 1 rfl) ?_
    refine va_get (D := G.1) (ci := 1) (v := .ref (γ 1)) (C := RX1) (T := TX1) (N := 16) hx hb hts in_X1 hown hE.1.1 hF 0 rfl rfl 0 (by decide) (hts _ q239) (fun _ h9 => h9) rfl dX1_shiftOf_16 ?_
    refine lv_iload_n hx hb dX1_shiftOf_19 rfl (lv_at hl 0 rfl) ?_
    refine ol_cF5 (st1 := [.ref (E 0 i1)]) (va_runF (As := [.int (nI i1)]) (rest := []) (hE.1.1.1 9 _ rfl).2 ⟨hx, hb, hml, hown, hts⟩ (jr_get l G (γ 1) (γ 2) (Rw * Cl) (γ 3) (nI (γ 4)) (X 0) i1 (E 0 i1) (by omega) (by omega) (by omega) (hk4 _ (by omega))) (va_cwF 1 hts (lw_F q458 q425 q427 q61 q429) rfl rfl rfl (hE.2.1 _ (List.mem_of_getElem? (i := 3) rfl)) (by decide +kernel) ⟨Nat.le_of_ble_eq_true rfl, Nat.le_of_ble_eq_true rfl⟩) (oPc.preV hE.1 (hE.1.recv (ci := 9) (hF 1 _ rfl) rfl) (hF.sub [1, 2] rfl)) rfl rfl hl.1 rfl (lv_room (Nat.le_of_ble_eq_true rfl)) dX1_shiftOf_20 ⟨Nat.le_of_ble_eq_true rfl, Nat.le_of_ble_eq_true rfl⟩) rfl ?_
    refine va_castE hx hb hown (hts _ q352) (hE.1.recv (ci := 4) ((oP_1 (hK i1 (by omega))) 0 _ rfl) rfl) dX1_shiftOf_25 ?_
    refine va_getN (D := G.1) (ci := 4) (v := .int (mSh r (nI i1))) (C := RX4) (T := TX4) (N := 7) hx hb hts in_X4 hown hE.1.1 (oP_1 (hK i1 (by omega))) 0 rfl rfl 1 (by decide) (va_Nw.use rfl (hE.1.2.1 _ q362 rfl)) (fun _ h9 => h9) rfl dX1_shiftOf_28 ?_
    refine lv_iload_n hx hb dX1_shiftOf_31 rfl (lv_at hl 2 rfl) ?_
    refine lv_icmp_ne (tgt := 37) hx hb dX1_shiftOf_32 (by decide) (fun c_32 => ?_) (fun c_32 => ?_)
    · refine ol_iinc (k := 0) (lv' := [(2, .int (nI (i1 + 1))), (0, .ref (γ 0)), (1, .int (nI q))]) hx hb 1 i1 dX1_shiftOf_37 hl rfl (by decide) rfl (fun ls hl => ?_)
      refine lv_goto (tgt := 2) hx hb dX1_shiftOf_40 (by decide) ?_
      exact ih1 s.heap [] ls (by omega) ⟨lv_sub hl [0, 1, 2] rfl, (fun k hk => by rcases Nat.lt_or_ge k i1 with h | h; exact hno k h; rw [show k = i1 by omega]; exact c_32), rfl, rfl⟩
    · refine lv_iload_n hx hb dX1_shiftOf_35 rfl (lv_at hl 0 rfl) ?_
      exact ol_iretR hx hb hr hlocks rfl (mSh_q hq c_32).symm dX1_shiftOf_36
set_option maxHeartbeats 4000000 in
set_option maxRecDepth 100000 in
theorem cr_isShiftOn (l : Launch) (G : oG) (Z : oZ) (γ : Nat → Nat) (X : Nat → Nat → Option Nat) (E : Nat → Nat → Nat) (r : Nat → Int32) (f : Nat → UInt32) (Rw Cl : Nat) (q : Nat) (hg : mG r Rw Cl) (hsk : sK γ X E (Rw * Cl)) (hsh : sSh r (Rw * Cl)) (hq : q < 2) (hsi : sI r (Rw * Cl)) : Met l yX1_isShiftOn (ws_ yX1_isShiftOn cX1_isShiftOn 3 (some .boolean)) ({ frames := 4, cells := 0, slots := 0, locals := 86 }) (oPc1 G Z [.ref (γ 0), .int (nI q)] (fun H => sR G γ X E r f (Rw * Cl) H)) (oR (some (.int (zB (mOn r q))))) 0 0 (fun _ => False) := by
  refine Met.ofW (cc := cX1_isShiftOn) (maxL := 3) (ret := (some .boolean)) (by decide) rfl ?_
  intro p e s m args below meth c s₁ B hml hv
  obtain ⟨rfl, hP, hE⟩ := hv
  have hx := B.exec
  have hb := B.bytes
  have hr := B.returns
  have hts := atoms_spec (ws := ws_ yX1_isShiftOn cX1_isShiftOn 3 (some .boolean)) B.pre
  have hts : ∀ w ∈ lw_all, w.before _ s = true := fun w h => hts w (List.mem_cons_of_mem _ h)
  have hown : s.vm.findClass RX1 = some m.cls := findClass_of_methodNamed B.named
  have hlocks := B.notSynchronized
  have hl := lv_entry ([.ref (γ 0), .int (nI q)]) (n := 3) (Nat.le_of_ble_eq_true rfl)
  rw [lg_entry_eq]
  generalize (lg_sl ([.ref (γ 0), .int (nI q)]) ++ List.replicate (3 - (lg_sl ([.ref (γ 0), .int (nI q)])).length) Slot.unset).toArray = ls at hl ⊢
  replace hl : lv_has ls 3 [(0, .ref (γ 0)), (1, .int (nI q))] := hl
  have hgn := mG_n hg
  have hg' := hg
  obtain ⟨hg0, hg1, hg2, hg3, hg4, hg5⟩ := hg'
  obtain ⟨hF, hK⟩ := hP
  have hsk1 := hsk
  obtain ⟨hk1, hk2, hk3, hk4⟩ := hsk1
  refine lv_aload_n hx hb dX1_isShiftOn_0 rfl (lv_at hl 0 rfl) ?_
  refine lv_iload_n hx hb dX1_isShiftOn_1 rfl (lv_at hl 1 rfl) ?_
  refine ol_cR (st1 := [.int (r (5 + q))]) (va_runV (As := [.int (nI q)]) (rest := []) ⟨hx, hb, hml, hown, hts⟩ (cr_shiftOf l G Z γ X E r f Rw Cl q hg hsk hsh (by omega)) (cwV 1 hts (lw_V q708 q534 q535 q58 q536) rfl rfl rfl (by decide +kernel) ⟨Nat.le_of_ble_eq_true rfl, Nat.le_of_ble_eq_true rfl⟩) (oPc1.preV hE (hE.1.recv (ci := 1) (hF 0 _ rfl) rfl) ⟨hF, hK⟩) rfl rfl hl.1 rfl (lv_room (Nat.le_of_ble_eq_true rfl)) dX1_isShiftOn_2 ⟨Nat.le_of_ble_eq_true rfl, Nat.le_of_ble_eq_true rfl⟩) rfl ?_
  refine lv_istore_n (lv' := [(2, .int (r (5 + q))), (0, .ref (γ 0)), (1, .int (nI q))]) hx hb dX1_isShiftOn_5 rfl hl (by decide) rfl (fun ls hl => ?_)
  refine lv_iload_n hx hb dX1_isShiftOn_6 rfl (lv_at hl 0 rfl) ?_
  refine lv_bipush (v := (-5)) hx hb dX1_isShiftOn_7 (by decide) ?_
  refine lv_icmp_eq (tgt := 54) hx hb dX1_isShiftOn_9 (by decide) (fun c_9 => ?_) (fun c_9 => ?_)
  · have hs0 : r (5 + q) < 0 := by rw [c_9]; decide
    refine lv_iconst (v := 0) hx hb dX1_isShiftOn_54 (by decide) ?_
    exact ol_zretR hx hb hr hlocks rfl (by simp [mOn, hs0, zB]) dX1_isShiftOn_55
  · obtain ⟨hs1, hs2, hs3⟩ := (hsh q hq).resolve_left c_9
    have hs0 : ¬ r (5 + q) < 0 := by rw [hs2]; exact nI_pos (by omega)
    obtain ⟨hi1, hi2, hi3, hi4⟩ := hsi _ hs1
    refine lv_aload_n hx hb dX1_isShiftOn_12 rfl (lv_at hl 1 rfl) ?_
    refine va_get (D := G.1) (ci := 1) (v := .ref (γ 1)) (C := RX1) (T := TX1) (N := 16) hx hb hts in_X1 hown hE.1.1 hF 0 rfl rfl 0 (by decide) (hts _ q239) (fun _ h9 => h9) rfl dX1_isShiftOn_13 ?_
    refine lv_iload_n hx hb dX1_isShiftOn_16 rfl (lv_at hl 0 rfl) ?_
    refine ol_top (y := nI (cN (r (5 + q)))) hs2 ?_
    refine ol_cF5 (st1 := [.ref (E 0 (cN (r (5 + q))))]) (va_runF (As := [.int (nI (cN (r (5 + q))))]) (rest := []) (hE.1.1.1 9 _ rfl).2 ⟨hx, hb, hml, hown, hts⟩ (jr_get l G (γ 1) (γ 2) (Rw * Cl) (γ 3) (nI (γ 4)) (X 0) (cN (r (5 + q))) (E 0 (cN (r (5 + q)))) (by omega) (by omega) (by omega) (hk4 _ (by omega))) (va_cwF 1 hts (lw_F q458 q425 q427 q61 q429) rfl rfl rfl (hE.2.1 _ (List.mem_of_getElem? (i := 3) rfl)) (by decide +kernel) ⟨Nat.le_of_ble_eq_true rfl, Nat.le_of_ble_eq_true rfl⟩) (oPc.preV hE.1 (hE.1.recv (ci := 9) (hF 1 _ rfl) rfl) (hF.sub [1, 2] rfl)) rfl rfl hl.1 rfl (lv_room (Nat.le_of_ble_eq_true rfl)) dX1_isShiftOn_17 ⟨Nat.le_of_ble_eq_true rfl, Nat.le_of_ble_eq_true rfl⟩) rfl ?_
    refine va_castE hx hb hown (hts _ q352) (hE.1.recv (ci := 4) ((oP_1 (hK (cN (r (5 + q))) (by omega))) 0 _ rfl) rfl) dX1_isShiftOn_22 ?_
    refine ol_cR (st1 := [.int (zB (!decide (r (68 + (cN (r (5 + q)))) = -5)))]) (va_runV (As := []) (rest := []) ⟨hx, hb, hml, hown, hts⟩ (cr_isSeen l G (E 0 (cN (r (5 + q)))) (r (260 + (cN (r (5 + q))))) (mSh r (nI (cN (r (5 + q))))) (r (20 + (cN (r (5 + q))))) (r (68 + (cN (r (5 + q))))) (r (116 + (cN (r (5 + q))))) (r (164 + (cN (r (5 + q))))) (r (212 + (cN (r (5 + q)))))) (cwV 0 hts (lw_V q599 q446 q447 q72 q448) rfl rfl rfl (by decide +kernel) ⟨Nat.le_of_ble_eq_true rfl, Nat.le_of_ble_eq_true rfl⟩) (oPc.preV hE.1 (hE.1.recv (ci := 4) ((oP_1 (hK (cN (r (5 + q))) (by omega))) 0 _ rfl) rfl) (oP_1 (hK (cN (r (5 + q))) (by omega)))) rfl rfl hl.1 rfl (lv_room (Nat.le_of_ble_eq_true rfl)) dX1_isShiftOn_25 ⟨Nat.le_of_ble_eq_true rfl, Nat.le_of_ble_eq_true rfl⟩) rfl ?_
    refine ol_top (y := zB (sn r (cN (r (5 + q))))) (congrArg zB (oNg_d hi2)) ?_
    refine ol_if_eqB hx hb (sn r (cN (r (5 + q)))) (tgt := 54) dX1_isShiftOn_28 (by decide) (fun c_28 => ?_) (fun c_28 => ?_)
    · refine lv_iconst (v := 0) hx hb dX1_isShiftOn_54 (by decide) ?_
      exact ol_zretR hx hb hr hlocks rfl (by simp [mOn, hs0, zB, c_28]) dX1_isShiftOn_55
    · refine lv_aload_n hx hb dX1_isShiftOn_31 rfl (lv_at hl 1 rfl) ?_
      refine va_get (D := G.1) (ci := 1) (v := .ref (γ 1)) (C := RX1) (T := TX1) (N := 16) hx hb hts in_X1 hown hE.1.1 hF 0 rfl rfl 0 (by decide) (hts _ q239) (fun _ h9 => h9) rfl dX1_isShiftOn_32 ?_
      refine lv_iload_n hx hb dX1_isShiftOn_35 rfl (lv_at hl 0 rfl) ?_
      refine ol_top (y := nI (cN (r (5 + q)))) hs2 ?_
      refine ol_cF5 (st1 := [.ref (E 0 (cN (r (5 + q))))]) (va_runF (As := [.int (nI (cN (r (5 + q))))]) (rest := []) (hE.1.1.1 9 _ rfl).2 ⟨hx, hb, hml, hown, hts⟩ (jr_get l G (γ 1) (γ 2) (Rw * Cl) (γ 3) (nI (γ 4)) (X 0) (cN (r (5 + q))) (E 0 (cN (r (5 + q)))) (by omega) (by omega) (by omega) (hk4 _ (by omega))) (va_cwF 1 hts (lw_F q458 q425 q427 q61 q429) rfl rfl rfl (hE.2.1 _ (List.mem_of_getElem? (i := 3) rfl)) (by decide +kernel) ⟨Nat.le_of_ble_eq_true rfl, Nat.le_of_ble_eq_true rfl⟩) (oPc.preV hE.1 (hE.1.recv (ci := 9) (hF 1 _ rfl) rfl) (hF.sub [1, 2] rfl)) rfl rfl hl.1 rfl (lv_room (Nat.le_of_ble_eq_true rfl)) dX1_isShiftOn_36 ⟨Nat.le_of_ble_eq_true rfl, Nat.le_of_ble_eq_true rfl⟩) rfl ?_
      refine va_castE hx hb hown (hts _ q352) (hE.1.recv (ci := 4) ((oP_1 (hK (cN (r (5 + q))) (by omega))) 0 _ rfl) rfl) dX1_isShiftOn_41 ?_
      refine va_getN (D := G.1) (ci := 4) (v := .int (r (116 + (cN (r (5 + q)))))) (C := RX4) (T := TX4) (N := 7) hx hb hts in_X4 hown hE.1.1 (oP_1 (hK (cN (r (5 + q))) (by omega))) 0 rfl rfl 4 (by decide) (va_Nw.use rfl (hE.1.2.1 _ q371 rfl)) (fun _ h9 => h9) rfl dX1_isShiftOn_44 ?_
      refine lv_if_ne (tgt := 54) hx hb dX1_isShiftOn_47 (by decide) (fun c_47 => ?_) (fun c_47 => ?_)
      · refine lv_iconst (v := 0) hx hb dX1_isShiftOn_54 (by decide) ?_
        exact ol_zretR hx hb hr hlocks rfl (by simp [mOn, hs0, zB, c_28, c_47]) dX1_isShiftOn_55
      · refine lv_iconst (v := 1) hx hb dX1_isShiftOn_50 (by decide) ?_
        refine lv_goto (tgt := 55) hx hb dX1_isShiftOn_51 (by decide) ?_
        exact ol_zretR hx hb hr hlocks rfl (by simp [mOn, hs0, zB, c_28, c_47]) dX1_isShiftOn_55
