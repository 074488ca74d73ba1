/-! THE COMPONENT's STATE: its disputes, as strokes -/
def dF (r : Nat → Int32) (d : Nat) : Int32 := if r (404 + 7 * d + 3) < 0 then 3 else r (404 + 7 * d + 3)
/-- dispute d's stroke -/
abbrev dC (E : Nat → Nat → Nat) (r : Nat → Int32) (d : Nat) : Nat × va_E := (E 1 d, .inr (5, [.int (r (404 + 7 * d + 0)), .int (r (404 + 7 * d + 1)), .int (r (404 + 7 * d + 2)), .int (r (404 + 7 * d + 5)), .int (r (404 + 7 * d + 4)), .int (dF r d)]))
abbrev sD (G : oG) (γ : Nat → Nat) (X : Nat → Nat → Option Nat) (E : Nat → Nat → Nat) (r : Nat → Int32) (H : Heap) : Prop := va_P G.1 cl0 (alT G (γ 6) (γ 7) (X 1)) H ∧ ∀ d, d < cN (r 16) → va_at G.1 cl0 (dC E r d) H
/-- the disputes' list; a dispute that is settled has a fate below 3 -/
def sDk (γ : Nat → Nat) (X : Nat → Nat → Option Nat) (E : Nat → Nat → Nat) (r : Nat → Int32) : Prop := cN (r 16) ≤ 20 ∧ cN (r 16) ≤ γ 7 ∧ γ 7 ≤ 40000 ∧ (∀ d, d < cN (r 16) → X 1 d = some (E 1 d)) ∧ ∀ d, d < cN (r 16) → r (404 + 7 * d + 3) ≠ 3
theorem dF_3 {r : Nat → Int32} {d : Nat} (h : r (404 + 7 * d + 3) ≠ 3) : dF r d = 3 ↔ r (404 + 7 * d + 3) < 0 := by
  unfold dF; split
  · exact ⟨fun _ => by assumption, fun _ => rfl⟩
  · exact ⟨fun e => absurd e h, fun e => absurd e (by assumption)⟩
theorem alP {G : oG} {H : Heap} {a b cap n : Nat} {md : Int32} {xs : Nat → Option Nat} (h1 : va_at G.1 cl0 (a, .inr (9, [.int md, .ref b, .int (nI n)])) H) (h2 : va_P G.1 cl0 (alT G b cap xs) H) (h : 0 < cap) : va_P G.1 cl0 [(a, .inr (9, [.int md, .ref b, .int (nI n)])), (b, .inl (G.2 5, cap, .inr (.inr (.inr (.inr xs)))))] H := by
  rw [alT_1 xs h] at h2
  exact oP_cons.mpr ⟨h1, h2⟩
set_option maxHeartbeats 4000000 in
set_option maxRecDepth 100000 in
theorem cr_openDisputes (l : Launch) (G : oG) (Z : oZ) (γ : Nat → Nat) (X : Nat → Nat → Option Nat) (E : Nat → Nat → Nat) (r : Nat → Int32) (f : Nat → UInt32) (Rw Cl : Nat)  (hg : mG r Rw Cl) (hsk : sK γ X E (Rw * Cl)) (hdk : sDk γ X E r)  : Met l yX1_openDisputes (ws_ yX1_openDisputes cX1_openDisputes 3 (some .int)) ({ frames := 3, cells := 0, slots := 0, locals := 64 }) (oPc1 G Z [.ref (γ 0)] (fun H => sR G γ X E r f (Rw * Cl) H ∧ sD G γ X E r H)) (oR (some (.int (nI (mOpen r (cN (r 16))))))) 0 0 (fun _ => False) := by
  refine Met.ofW (cc := cX1_openDisputes) (maxL := 3) (ret := (some .int)) (by decide) rfl ?_
  intro p e s m args below meth c s₁ B hml hv
  obtain ⟨rfl, hP, hE⟩ := hv
  have hx := B.exec
  have hb := B.bytes
  have hr := B.returns
  have hts := atoms_spec (ws := ws_ yX1_openDisputes cX1_openDisputes 3 (some .int)) B.pre
  have hts : ∀ w ∈ lw_all, w.before _ s = true := fun w h => hts w (List.mem_cons_of_mem _ h)
  have hown : s.vm.findClass RX1 = some m.cls := findClass_of_methodNamed B.named
  have hlocks := B.notSynchronized
  have hl := lv_entry ([.ref (γ 0)]) (n := 3) (Nat.le_of_ble_eq_true rfl)
  rw [lg_entry_eq]
  generalize (lg_sl ([.ref (γ 0)]) ++ List.replicate (3 - (lg_sl ([.ref (γ 0)])).length) Slot.unset).toArray = ls at hl ⊢
  replace hl : lv_has ls 3 [(0, .ref (γ 0))] := hl
  obtain ⟨hP, hDT, hDC⟩ := hP
  have hgn := mG_n hg
  have hg' := hg
  obtain ⟨hg0, hg1, hg2, hg3, hg4, hg5⟩ := hg'
  obtain ⟨hF, hK⟩ := hP
  have hsk1 := hsk
  obtain ⟨hk1, hk2, hk3, hk4⟩ := hsk1
  have hdk1 := hdk
  obtain ⟨hd1, hd2, hd3, hd4, hd5⟩ := hdk1
  refine lv_iconst (v := 0) hx hb dX1_openDisputes_0 (by decide) ?_
  refine lv_istore_n (lv' := [(1, .int 0), (0, .ref (γ 0))]) hx hb dX1_openDisputes_1 rfl hl (by decide) rfl (fun ls hl => ?_)
  refine lv_iconst (v := 0) hx hb dX1_openDisputes_2 (by decide) ?_
  refine lv_istore_n (lv' := [(2, .int 0), (1, .int 0), (0, .ref (γ 0))]) hx hb dX1_openDisputes_3 rfl hl (by decide) rfl (fun ls hl => ?_)
  refine ol_for (P := fun i1 H1 locs1 ls => lv_has ls 3 [(2, .int (nI i1)), (0, .ref (γ 0)), (1, .int (nI (mOpen r i1)))] ∧ H1 = s.heap ∧ locs1 = []) (cN (r 16)) 0 (by omega) ⟨lv_sub hl [0, 2, 1] rfl, rfl, rfl⟩ (fun i1 H1 locs1 ls hi1 hI ih1 => ?_)
  obtain ⟨hl, rfl, rfl⟩ := hI
  have hc1 : mOpen r i1 ≤ i1 := rng_c_le _ _
  refine lv_iload_n hx hb dX1_openDisputes_4 rfl (lv_at hl 0 rfl) ?_
  refine lv_aload_n hx hb dX1_openDisputes_5 rfl (lv_at hl 1 rfl) ?_
  refine va_get (D := G.1) (ci := 1) (v := .ref (γ 5)) (C := RX1) (T := TX1) (N := 16) hx hb hts in_X1 hown hE.1.1 hF 0 rfl rfl 1 (by decide) (hts _ q241) (fun _ h9 => h9) rfl dX1_openDisputes_6 ?_
  refine ol_cF5 (st1 := [.int (nI (cN (r 16))), .int (nI i1)]) (va_runF (As := []) (rest := [.int (nI i1)]) (hE.1.1.1 9 _ rfl).2 ⟨hx, hb, hml, hown, hts⟩ (jr_size l G (γ 5) (γ 6) (cN (r 16)) (nI (γ 8))) (va_cwF 0 hts (lw_F q456 q416 q418 q61 q420) rfl rfl rfl (hE.2.1 _ (List.mem_of_getElem? (i := 2) rfl)) (by decide +kernel) ⟨Nat.le_of_ble_eq_true rfl, Nat.le_of_ble_eq_true rfl⟩) (oPc.preV hE.1 (hE.1.recv (ci := 9) (hF 3 _ rfl) rfl) (hF.sub [3] rfl)) rfl rfl hl.1 rfl (lv_room (Nat.le_of_ble_eq_true rfl)) dX1_openDisputes_9 ⟨Nat.le_of_ble_eq_true rfl, Nat.le_of_ble_eq_true rfl⟩) rfl ?_
  refine ol_icmp_ge hx hb i1 (cN (r 16)) (by omega) (by omega) (tgt := 51) dX1_openDisputes_14 (by decide) (fun c_14 => ?_) (fun c_14 => ?_)
  · have e1 : i1 = cN (r 16) := by omega
    refine lv_iload_n hx hb dX1_openDisputes_51 rfl (lv_at hl 2 rfl) ?_
    exact ol_iretR hx hb hr hlocks rfl (by rw [e1]) dX1_openDisputes_52
  · refine lv_iload_n hx hb dX1_openDisputes_17 rfl (lv_at hl 2 rfl) ?_
    refine lv_aload_n hx hb dX1_openDisputes_18 rfl (lv_at hl 1 rfl) ?_
    refine va_get (D := G.1) (ci := 1) (v := .ref (γ 5)) (C := RX1) (T := TX1) (N := 16) hx hb hts in_X1 hown hE.1.1 hF 0 rfl rfl 1 (by decide) (hts _ q241) (fun _ h9 => h9) rfl dX1_openDisputes_19 ?_
    refine lv_iload_n hx hb dX1_openDisputes_22 rfl (lv_at hl 0 rfl) ?_
    refine ol_cF5 (st1 := [.ref (E 1 i1), .int (nI (mOpen r i1))]) (va_runF (As := [.int (nI i1)]) (rest := [.int (nI (mOpen r i1))]) (hE.1.1.1 9 _ rfl).2 ⟨hx, hb, hml, hown, hts⟩ (jr_get l G (γ 5) (γ 6) (cN (r 16)) (γ 7) (nI (γ 8)) (X 1) i1 (E 1 i1) (by omega) (by omega) (by omega) (hd4 _ (by omega))) (va_cwF 1 hts (lw_F q458 q425 q427 q61 q429) rfl rfl rfl (hE.2.1 _ (List.mem_of_getElem? (i := 3) rfl)) (by decide +kernel) ⟨Nat.le_of_ble_eq_true rfl, Nat.le_of_ble_eq_true rfl⟩) (oPc.preV hE.1 (hE.1.recv (ci := 9) (hF 3 _ rfl) rfl) (alP (hF 3 _ rfl) hDT (by omega))) rfl rfl hl.1 rfl (lv_room (Nat.le_of_ble_eq_true rfl)) dX1_openDisputes_23 ⟨Nat.le_of_ble_eq_true rfl, Nat.le_of_ble_eq_true rfl⟩) rfl ?_
    refine va_castE hx hb hown (hts _ q465) (hE.1.recv (ci := 5) ((oP_1 (hDC i1 (by omega))) 0 _ rfl) rfl) dX1_openDisputes_28 ?_
    refine va_getN (D := G.1) (ci := 5) (v := .int (dF r i1)) (C := RX6) (T := TX6) (N := 6) hx hb hts in_X6 hown hE.1.1 (oP_1 (hDC i1 (by omega))) 0 rfl rfl 5 (by decide) (va_Nw.use rfl (hE.1.2.1 _ q648 rfl)) (fun _ h9 => h9) rfl dX1_openDisputes_31 ?_
    refine lv_iconst (v := 3) hx hb dX1_openDisputes_34 (by decide) ?_
    refine lv_icmp_ne (tgt := 42) hx hb dX1_openDisputes_35 (by decide) (fun c_35 => ?_) (fun c_35 => ?_)
    · refine lv_iconst (v := 0) hx hb dX1_openDisputes_42 (by decide) ?_
      refine ol_iadd hx hb (mOpen r i1) 0 dX1_openDisputes_43 ?_
      refine lv_istore_n (lv' := [(1, .int (nI (mOpen r i1 + 0))), (2, .int (nI i1)), (0, .ref (γ 0))]) hx hb dX1_openDisputes_44 rfl hl (by decide) rfl (fun ls hl => ?_)
      refine ol_iinc (k := 1) (lv' := [(2, .int (nI (i1 + 1))), (1, .int (nI (mOpen r i1 + 0))), (0, .ref (γ 0))]) hx hb 1 i1 dX1_openDisputes_45 hl rfl (by decide) rfl (fun ls hl => ?_)
      refine lv_goto (tgt := 4) hx hb dX1_openDisputes_48 (by decide) ?_
      have hlt : decide (r (404 + 7 * i1 + 3) < 0) = false := decide_eq_false (fun q => c_35 ((dF_3 (hd5 i1 (by omega))).mpr q))
      refine ih1 s.heap [] ls (by omega) ⟨?_, rfl, rfl⟩
      rw [show mOpen r (i1 + 1) = mOpen r i1 + 0 from by unfold mOpen; rw [rng_c]; rw [hlt]; rfl]
      exact lv_sub hl [0, 2, 1] rfl
    · refine lv_iconst (v := 1) hx hb dX1_openDisputes_38 (by decide) ?_
      refine lv_goto (tgt := 43) hx hb dX1_openDisputes_39 (by decide) ?_
      refine ol_iadd hx hb (mOpen r i1) 1 dX1_openDisputes_43 ?_
      refine lv_istore_n (lv' := [(1, .int (nI (mOpen r i1 + 1))), (2, .int (nI i1)), (0, .ref (γ 0))]) hx hb dX1_openDisputes_44 rfl hl (by decide) rfl (fun ls hl => ?_)
      refine ol_iinc (k := 1) (lv' := [(2, .int (nI (i1 + 1))), (1, .int (nI (mOpen r i1 + 1))), (0, .ref (γ 0))]) hx hb 1 i1 dX1_openDisputes_45 hl rfl (by decide) rfl (fun ls hl => ?_)
      refine lv_goto (tgt := 4) hx hb dX1_openDisputes_48 (by decide) ?_
      have hlt : decide (r (404 + 7 * i1 + 3) < 0) = true := decide_eq_true ((dF_3 (hd5 i1 (by omega))).mp c_35)
      refine ih1 s.heap [] ls (by omega) ⟨?_, rfl, rfl⟩
      rw [show mOpen r (i1 + 1) = mOpen r i1 + 1 from by unfold mOpen; rw [rng_c]; rw [hlt]; rfl]
      exact lv_sub hl [0, 2, 1] rfl
