/-! THE REFERENCE: driving a row -/
/-- one pass over the keys: rows and columns that are reached, as bits -/
def mDs (r : Nat → Int32) (Cl : Nat) : Nat → Nat × Nat → Nat × Nat
  | 0, x => x
  | k + 1, x => if (dn r k && (Nat.testBit (mDs r Cl k x).1 (k / Cl) || Nat.testBit (mDs r Cl k x).2 (k % Cl))) = true then ((mDs r Cl k x).1 ||| 2 ^ (k / Cl), (mDs r Cl k x).2 ||| 2 ^ (k % Cl)) else mDs r Cl k x
/-- passes until nothing changes -/
def drvIt (r : Nat → Int32) (n Cl : Nat) : Nat → Nat × Nat → Nat × Nat
  | 0, x => x
  | g + 1, x => if mDs r Cl n x = x then x else drvIt r n Cl g (mDs r Cl n x)
def mDrv (r : Nat → Int32) (Rw Cl q : Nat) : Nat × Nat := drvIt r (Rw * Cl) Cl 320 (2 ^ q, 0)
theorem mDs_le (r : Nat → Int32) (Cl k : Nat) (x : Nat × Nat) : x.1 ≤ (mDs r Cl k x).1 ∧ x.2 ≤ (mDs r Cl k x).2 := by
  induction k with
  | zero => exact ⟨Nat.le_refl _, Nat.le_refl _⟩
  | succ k ih =>
    unfold mDs
    split
    · exact ⟨Nat.le_trans ih.1 Nat.left_le_or, Nat.le_trans ih.2 Nat.left_le_or⟩
    · exact ih
theorem mDs_lt (r : Nat → Int32) {Rw Cl k : Nat} (hR : Rw ≤ 6) (hC : 2 ≤ Cl ∧ Cl ≤ 8) {x : Nat × Nat} (h1 : x.1 < 64) (h2 : x.2 < 256) (hk : k ≤ Rw * Cl) : (mDs r Cl k x).1 < 64 ∧ (mDs r Cl k x).2 < 256 := by
  induction k with
  | zero => exact ⟨h1, h2⟩
  | succ k ih =>
    unfold mDs
    have ih := ih (by omega)
    split
    · have e1 : k / Cl < 6 := Nat.lt_of_lt_of_le ((Nat.div_lt_iff_lt_mul (by omega)).mpr (by omega)) hR
      have e2 : k % Cl < 8 := Nat.lt_of_lt_of_le (Nat.mod_lt _ (by omega)) hC.2
      exact ⟨Nat.or_lt_two_pow (n := 6) ih.1 (Nat.pow_lt_pow_right (by decide) e1), Nat.or_lt_two_pow (n := 8) ih.2 (Nat.pow_lt_pow_right (by decide) e2)⟩
    · exact ih
def drvInv (r : Nat → Int32) (Rw Cl q : Nat) (x : (Nat × Nat) × Bool) : Prop := x.1.1 < 64 ∧ x.1.2 < 256 ∧ (if x.2 = true then ∃ g, 320 ≤ g + x.1.1 + x.1.2 ∧ drvIt r (Rw * Cl) Cl g x.1 = mDrv r Rw Cl q else x.1 = mDrv r Rw Cl q)
def drvMu (x : (Nat × Nat) × Bool) : Nat := if x.2 = true then 1 + (320 - (x.1.1 + x.1.2)) else 0
theorem drv_0 {r : Nat → Int32} {Rw Cl q : Nat} (hq : q < 6) : drvInv r Rw Cl q ((2 ^ q, 0), true) :=
  ⟨Nat.pow_lt_pow_right (n := 6) (by decide) hq, by show 0 < 256; decide, 320, by simp, rfl⟩
theorem drv_next {r : Nat → Int32} {Rw Cl q : Nat} {x : (Nat × Nat) × Bool} (hR : Rw ≤ 6) (hC : 2 ≤ Cl ∧ Cl ≤ 8) (h : drvInv r Rw Cl q x) (hx : x.2 = true) (hne : mDs r Cl (Rw * Cl) x.1 ≠ x.1) : drvInv r Rw Cl q (mDs r Cl (Rw * Cl) x.1, true) ∧ drvMu (mDs r Cl (Rw * Cl) x.1, true) < drvMu x := by
  obtain ⟨h1, h2, h3⟩ := h
  rw [if_pos hx] at h3
  obtain ⟨g, hg, he⟩ := h3
  have hlt := mDs_lt r hR hC h1 h2 (Nat.le_refl (Rw * Cl))
  have hle := mDs_le r Cl (Rw * Cl) x.1
  have hs : x.1.1 + x.1.2 < (mDs r Cl (Rw * Cl) x.1).1 + (mDs r Cl (Rw * Cl) x.1).2 := by
    rcases Nat.lt_or_ge (x.1.1 + x.1.2) ((mDs r Cl (Rw * Cl) x.1).1 + (mDs r Cl (Rw * Cl) x.1).2) with q | q
    · exact q
    · exact absurd (Prod.ext (by omega) (by omega)) hne
  constructor
  · refine ⟨hlt.1, hlt.2, ?_⟩
    rw [if_pos rfl]
    cases g with
    | zero => omega
    | succ g =>
      refine ⟨g, ?_, ?_⟩
      · show 320 ≤ g + (mDs r Cl (Rw * Cl) x.1).1 + (mDs r Cl (Rw * Cl) x.1).2
        omega
      · rw [drvIt, if_neg hne] at he
        exact he
  · unfold drvMu
    rw [if_pos rfl, if_pos hx]
    show 1 + (320 - ((mDs r Cl (Rw * Cl) x.1).1 + (mDs r Cl (Rw * Cl) x.1).2)) < _
    omega
theorem drv_last {r : Nat → Int32} {Rw Cl q : Nat} {x : (Nat × Nat) × Bool} (h : drvInv r Rw Cl q x) (hx : x.2 = true) (he : mDs r Cl (Rw * Cl) x.1 = x.1) : drvInv r Rw Cl q (mDs r Cl (Rw * Cl) x.1, false) ∧ drvMu (mDs r Cl (Rw * Cl) x.1, false) < drvMu x := by
  obtain ⟨h1, h2, h3⟩ := h
  rw [if_pos hx] at h3
  obtain ⟨g, hg, h4⟩ := h3
  refine ⟨⟨by rw [he]; exact h1, by rw [he]; exact h2, ?_⟩, ?_⟩
  · rw [if_neg (by simp)]
    show mDs r Cl (Rw * Cl) x.1 = _
    rw [he]
    cases g with
    | zero => exact h4
    | succ g => rw [drvIt, if_pos he] at h4; exact h4
  · unfold drvMu
    rw [if_neg (by simp), if_pos hx]
    omega
def mWs (r : Nat → Int32) (Rw Cl k : Nat) : Bool := Nat.testBit (mDrv r Rw Cl (k / Cl)).2 (k % Cl)
theorem mDrv_lt {r : Nat → Int32} {Rw Cl q : Nat} (hR : Rw ≤ 6) (hC : 2 ≤ Cl ∧ Cl ≤ 8) (hq : q < 6) : (mDrv r Rw Cl q).1 < 64 ∧ (mDrv r Rw Cl q).2 < 256 := by
  unfold mDrv
  have : ∀ g (x : Nat × Nat), x.1 < 64 → x.2 < 256 → (drvIt r (Rw * Cl) Cl g x).1 < 64 ∧ (drvIt r (Rw * Cl) Cl g x).2 < 256 := by
    intro g
    induction g with
    | zero => intro x h1 h2; exact ⟨h1, h2⟩
    | succ g ih =>
      intro x h1 h2
      unfold drvIt
      split
      · exact ⟨h1, h2⟩
      · have := mDs_lt r hR hC h1 h2 (Nat.le_refl (Rw * Cl)); exact ih _ this.1 this.2
  exact this 320 _ (Nat.pow_lt_pow_right (n := 6) (by decide) hq) (by show 0 < 256; decide)
set_option maxHeartbeats 4000000 in
set_option maxRecDepth 100000 in
theorem mm_drive (l : Launch) (G : oG) (ad : Nat → Nat) (iS : Int32) (iA : Int32) (iL : Int32) (iT : Int32) (iC : Int32) (iR : Int32) (r : Nat → Int32) (pr : Nat → Int32) (ar : Nat → Int32) (br : Nat → Int32) (f : Nat → UInt32) (pf : Nat → UInt32) (af : Nat → UInt32) (bf : Nat → UInt32) (tx : Nat → Int32) (q : Nat) (Rw Cl : Nat) (hg : mG r Rw Cl) (hq : q < 6) (sz : Nat) : Met l yX5_drive (ws_ yX5_drive cX5_drive 9 none) ({ frames := 1, cells := 0, slots := 0, locals := 21 }) (oPc G [.ref (ad 0), .int (nI q)] (oPE G (mW G ad iS iA iL iT iC iR r pr ar br f pf af bf tx) sz (fun _ => True))) (oE G (fun v_ W_ => v_ = none ∧ W_ = mW G ad iS iA iL iT (nI (mDrv r Rw Cl q).2) (nI (mDrv r Rw Cl q).1) r pr ar br f pf af bf tx) (mW G ad iS iA iL iT iC iR r pr ar br f pf af bf tx) sz) 0 0 (va_A (mW G ad iS iA iL iT iC iR r pr ar br f pf af bf tx) sz) := by
  refine Met.ofW (cc := cX5_drive) (maxL := 9) (ret := none) (by decide) rfl ?_
  intro p e s m args below meth c s₁ B hml hv
  obtain ⟨rfl, ⟨hsz, hP, hD0, hX⟩, hE⟩ := hv
  have hx := B.exec
  have hb := B.bytes
  have hr := B.returns
  have hts := atoms_spec (ws := ws_ yX5_drive cX5_drive 9 none) B.pre
  have hts : ∀ w ∈ lw_all, w.before _ s = true := fun w h => hts w (List.mem_cons_of_mem _ h)
  have hown : s.vm.findClass RX5 = some m.cls := findClass_of_methodNamed B.named
  have hlocks := B.notSynchronized
  subst hsz
  have hD := hD0.self (sz := s.heap.size)
  have hA : ∀ q : Nat, s.heap.size ≤ q → va_A (mW G ad iS iA iL iT iC iR r pr ar br f pf af bf tx) s.heap.size q := fun q h => Or.inr h
  have hl := lv_entry ([.ref (ad 0), .int (nI q)]) (n := 9) (Nat.le_of_ble_eq_true rfl)
  rw [lg_entry_eq]
  generalize (lg_sl ([.ref (ad 0), .int (nI q)]) ++ List.replicate (9 - (lg_sl ([.ref (ad 0), .int (nI q)])).length) Slot.unset).toArray = ls at hl ⊢
  replace hl : lv_has ls 9 [(0, .ref (ad 0)), (1, .int (nI q))] := hl
  refine ol_start (A := va_A (mW G ad iS iA iL iT iC iR r pr ar br f pf af bf tx) s.heap.size) (fun H locs hH hS => ?_)
  rw [← hH] at hP
  clear hH
  have hgn := mG_n hg
  have hg' := hg
  obtain ⟨hg0, hg1, hg2, hg3, hg4, hg5⟩ := hg'
  refine lv_aload_n hx hb dX5_drive_0 rfl (lv_at hl 0 rfl) ?_
  refine lv_iconst (v := 1) hx hb dX5_drive_1 (by decide) ?_
  refine lv_iload_n hx hb dX5_drive_2 rfl (lv_at hl 1 rfl) ?_
  refine lv_ishl hx hb dX5_drive_3 ?_
  refine ol_top (y := nI (2 ^ q)) (nb_shl (by omega)) ?_
  refine va_put (D := G.1) (ci := 12) (v := .int (nI (2 ^ q))) (ty := .int) (C := RX5) (T := TX5) (N := 15) hx hb hts in_X5 tyX5 tyX5_ok nmX5 hown hE.1 hP hD hS 0 rfl rfl 14 (by decide) (hts _ q1149) (fun _ h9 => h9) rfl (by decide +kernel) rfl rfl (Nat.le_of_ble_eq_true rfl) dX5_drive_4 (fun H locs hP hD hS => ?_)
  replace hP : va_P G.1 cl0 (mW G ad iS iA iL iT iC (nI (2 ^ q)) r pr ar br f pf af bf tx) H := hP
  replace hD : va_D (va_A (mW G ad iS iA iL iT iC iR r pr ar br f pf af bf tx) s.heap.size) (mW G ad iS iA iL iT iC (nI (2 ^ q)) r pr ar br f pf af bf tx) := hD
  refine lv_aload_n hx hb dX5_drive_7 rfl (lv_at hl 0 rfl) ?_
  refine lv_iconst (v := 0) hx hb dX5_drive_8 (by decide) ?_
  refine va_put (D := G.1) (ci := 12) (v := .int 0) (ty := .int) (C := RX5) (T := TX5) (N := 15) hx hb hts in_X5 tyX5 tyX5_ok nmX5 hown hE.1 hP hD hS 0 rfl rfl 13 (by decide) (hts _ q1148) (fun _ h9 => h9) rfl (by decide +kernel) rfl rfl (Nat.le_of_ble_eq_true rfl) dX5_drive_9 (fun H locs hP hD hS => ?_)
  replace hP : va_P G.1 cl0 (mW G ad iS iA iL iT 0 (nI (2 ^ q)) r pr ar br f pf af bf tx) H := hP
  replace hD : va_D (va_A (mW G ad iS iA iL iT iC iR r pr ar br f pf af bf tx) s.heap.size) (mW G ad iS iA iL iT 0 (nI (2 ^ q)) r pr ar br f pf af bf tx) := hD
  refine lv_iconst (v := 1) hx hb dX5_drive_12 (by decide) ?_
  refine lv_istore_n (lv' := [(2, .int 1), (0, .ref (ad 0)), (1, .int (nI q))]) hx hb dX5_drive_13 rfl hl (by decide) rfl (fun ls hl => ?_)
  refine ol_while (P := fun x H locs ls => lv_has ls 9 [(2, .int (zB x.2)), (0, .ref (ad 0)), (1, .int (nI q))] ∧ va_P G.1 cl0 (mW G ad iS iA iL iT (nI x.1.2) (nI x.1.1) r pr ar br f pf af bf tx) H ∧ va_D (va_A (mW G ad iS iA iL iT iC iR r pr ar br f pf af bf tx) s.heap.size) (mW G ad iS iA iL iT (nI x.1.2) (nI x.1.1) r pr ar br f pf af bf tx) ∧ va_S (va_A (mW G ad iS iA iL iT iC iR r pr ar br f pf af bf tx) s.heap.size) s.heap H locs ∧ drvInv r Rw Cl q x) drvMu ((2 ^ q, 0), true) ⟨lv_sub hl [0, 1, 2] rfl, hP, hD, hS, drv_0 hq⟩ (fun x H locs ls hI ihw => ?_)
  obtain ⟨hl, hP, hD, hS, hV⟩ := hI
  have hV1 := hV.1
  have hV2 := hV.2.1
  refine lv_iload_n hx hb dX5_drive_14 rfl (lv_at hl 0 rfl) ?_
  refine ol_if_eqB hx hb x.2 (tgt := 181) dX5_drive_15 (by decide) (fun c_15 => ?_) (fun c_15 => ?_)
  · exact ol_vretE hx hb hr hlocks ⟨rfl, (by have h3 := hV.2.2; rw [c_15, if_neg (by simp)] at h3; rw [h3])⟩ hP hD hS dX5_drive_181
  · refine lv_aload_n hx hb dX5_drive_18 rfl (lv_at hl 1 rfl) ?_
    refine va_get (D := G.1) (ci := 12) (v := .int (nI x.1.2)) (C := RX5) (T := TX5) (N := 15) hx hb hts in_X5 hown hE.1 hP 0 rfl rfl 13 (by decide) (hts _ q1148) (fun _ h9 => h9) rfl dX5_drive_19 ?_
    refine lv_istore_n (lv' := [(3, .int (nI x.1.2)), (2, .int (zB x.2)), (0, .ref (ad 0)), (1, .int (nI q))]) hx hb dX5_drive_22 rfl hl (by decide) rfl (fun ls hl => ?_)
    refine lv_aload_n hx hb dX5_drive_23 rfl (lv_at hl 2 rfl) ?_
    refine va_get (D := G.1) (ci := 12) (v := .int (nI x.1.1)) (C := RX5) (T := TX5) (N := 15) hx hb hts in_X5 hown hE.1 hP 0 rfl rfl 14 (by decide) (hts _ q1149) (fun _ h9 => h9) rfl dX5_drive_24 ?_
    refine lv_istore (lv' := [(4, .int (nI x.1.1)), (3, .int (nI x.1.2)), (2, .int (zB x.2)), (0, .ref (ad 0)), (1, .int (nI q))]) hx hb dX5_drive_27 hl (by decide) rfl (fun ls hl => ?_)
    refine lv_iconst (v := 0) hx hb dX5_drive_29 (by decide) ?_
    refine lv_istore (lv' := [(5, .int 0), (4, .int (nI x.1.1)), (3, .int (nI x.1.2)), (2, .int (zB x.2)), (0, .ref (ad 0)), (1, .int (nI q))]) hx hb dX5_drive_30 hl (by decide) rfl (fun ls hl => ?_)
    refine ol_for (P := fun i5 H locs ls => lv_has ls 9 [(5, .int (nI i5)), (0, .ref (ad 0)), (1, .int (nI q)), (2, .int (zB x.2)), (3, .int (nI x.1.2)), (4, .int (nI x.1.1))] ∧ va_P G.1 cl0 (mW G ad iS iA iL iT (nI (mDs r Cl i5 x.1).2) (nI (mDs r Cl i5 x.1).1) r pr ar br f pf af bf tx) H ∧ va_D (va_A (mW G ad iS iA iL iT iC iR r pr ar br f pf af bf tx) s.heap.size) (mW G ad iS iA iL iT (nI (mDs r Cl i5 x.1).2) (nI (mDs r Cl i5 x.1).1) r pr ar br f pf af bf tx) ∧ va_S (va_A (mW G ad iS iA iL iT iC iR r pr ar br f pf af bf tx) s.heap.size) s.heap H locs) (Rw * Cl) 0 (by omega) ⟨lv_sub hl [0, 4, 5, 3, 2, 1] rfl, hP, hD, hS⟩ (fun i5 H locs ls hi5 hI ih5 => ?_)
    obtain ⟨hl, hP, hD, hS⟩ := hI
    refine lv_iload hx hb dX5_drive_32 (lv_at hl 0 rfl) ?_
    refine lv_aload_n hx hb dX5_drive_34 rfl (lv_at hl 1 rfl) ?_
    refine ol_cR (st1 := [.int (nI (Rw * Cl)), .int (nI i5)]) (va_runV (As := []) (rest := [.int (nI i5)]) ⟨hx, hb, hml, hown, hts⟩ (mr_keys l G ad iS iA iL iT (nI (mDs r Cl i5 x.1).2) (nI (mDs r Cl i5 x.1).1) r pr ar br f pf af bf tx Rw Cl hg) (cwV 0 hts (lw_V q1213 q1215 qs25 q73 q1216) rfl rfl rfl (by decide +kernel) ⟨Nat.le_of_ble_eq_true rfl, Nat.le_of_ble_eq_true rfl⟩) (oPc.preV hE (hE.recv (ci := 12) (hP 0 _ rfl) rfl) hP) rfl rfl hl.1 rfl (lv_room (Nat.le_of_ble_eq_true rfl)) dX5_drive_35 ⟨Nat.le_of_ble_eq_true rfl, Nat.le_of_ble_eq_true rfl⟩) rfl ?_
    refine ol_icmp_ge hx hb i5 (Rw * Cl) (by omega) (by omega) (tgt := 155) dX5_drive_38 (by decide) (fun c_38 => ?_) (fun c_38 => ?_)
    · have ei5 : Rw * Cl = i5 := by omega
      subst ei5
      refine lv_iload_n hx hb dX5_drive_155 rfl (lv_at hl 4 rfl) ?_
      refine lv_aload_n hx hb dX5_drive_156 rfl (lv_at hl 1 rfl) ?_
      refine va_get (D := G.1) (ci := 12) (v := .int (nI (mDs r Cl (Rw * Cl) x.1).2)) (C := RX5) (T := TX5) (N := 15) hx hb hts in_X5 hown hE.1 hP 0 rfl rfl 13 (by decide) (hts _ q1148) (fun _ h9 => h9) rfl dX5_drive_157 ?_
      have hlt := mDs_lt r hg3 ⟨hg4, hg5⟩ hV1 hV2 (Nat.le_refl (Rw * Cl))
      have hlt1 := hlt.1
      have hlt2 := hlt.2
      refine ol_icmp_ne hx hb x.1.2 ((mDs r Cl (Rw * Cl) x.1).2) (by omega) (by omega) (tgt := 172) dX5_drive_160 (by decide) (fun c_160 => ?_) (fun c_160 => ?_)
      · refine lv_iconst (v := 1) hx hb dX5_drive_172 (by decide) ?_
        refine lv_goto (tgt := 177) hx hb dX5_drive_173 (by decide) ?_
        refine lv_istore_n (lv' := [(2, .int 1), (5, .int (nI (Rw * Cl))), (0, .ref (ad 0)), (1, .int (nI q)), (3, .int (nI x.1.2)), (4, .int (nI x.1.1))]) hx hb dX5_drive_177 rfl hl (by decide) rfl (fun ls hl => ?_)
        refine lv_goto (tgt := 14) hx hb dX5_drive_178 (by decide) ?_
        have hn : mDs r Cl (Rw * Cl) x.1 ≠ x.1 := fun ee => absurd (congrArg Prod.snd ee).symm c_160
        have hw := drv_next hg3 ⟨hg4, hg5⟩ hV c_15 hn
        exact ihw (mDs r Cl (Rw * Cl) x.1, true) H locs ls hw.2 ⟨lv_sub hl [0, 2, 3] rfl, hP, mD_any hD, hS, hw.1⟩
      · have hlt := mDs_lt r hg3 ⟨hg4, hg5⟩ hV1 hV2 (Nat.le_refl (Rw * Cl))
        have hlt1 := hlt.1
        have hlt2 := hlt.2
        refine lv_iload hx hb dX5_drive_163 (lv_at hl 5 rfl) ?_
        refine lv_aload_n hx hb dX5_drive_165 rfl (lv_at hl 1 rfl) ?_
        refine va_get (D := G.1) (ci := 12) (v := .int (nI (mDs r Cl (Rw * Cl) x.1).1)) (C := RX5) (T := TX5) (N := 15) hx hb hts in_X5 hown hE.1 hP 0 rfl rfl 14 (by decide) (hts _ q1149) (fun _ h9 => h9) rfl dX5_drive_166 ?_
        refine ol_icmp_eq hx hb x.1.1 ((mDs r Cl (Rw * Cl) x.1).1) (by omega) (by omega) (tgt := 176) dX5_drive_169 (by decide) (fun c_169 => ?_) (fun c_169 => ?_)
        · refine lv_iconst (v := 0) hx hb dX5_drive_176 (by decide) ?_
          refine lv_istore_n (lv' := [(2, .int 0), (5, .int (nI (Rw * Cl))), (0, .ref (ad 0)), (1, .int (nI q)), (3, .int (nI x.1.2)), (4, .int (nI x.1.1))]) hx hb dX5_drive_177 rfl hl (by decide) rfl (fun ls hl => ?_)
          refine lv_goto (tgt := 14) hx hb dX5_drive_178 (by decide) ?_
          have hn : mDs r Cl (Rw * Cl) x.1 = x.1 := Prod.ext c_169.symm c_160.symm
          have hw := drv_last hV c_15 hn
          exact ihw (mDs r Cl (Rw * Cl) x.1, false) H locs ls hw.2 ⟨lv_sub hl [0, 2, 3] rfl, hP, mD_any hD, hS, hw.1⟩
        · refine lv_iconst (v := 1) hx hb dX5_drive_172 (by decide) ?_
          refine lv_goto (tgt := 177) hx hb dX5_drive_173 (by decide) ?_
          refine lv_istore_n (lv' := [(2, .int 1), (5, .int (nI (Rw * Cl))), (0, .ref (ad 0)), (1, .int (nI q)), (3, .int (nI x.1.2)), (4, .int (nI x.1.1))]) hx hb dX5_drive_177 rfl hl (by decide) rfl (fun ls hl => ?_)
          refine lv_goto (tgt := 14) hx hb dX5_drive_178 (by decide) ?_
          have hn : mDs r Cl (Rw * Cl) x.1 ≠ x.1 := fun ee => absurd (congrArg Prod.fst ee).symm c_169
          have hw := drv_next hg3 ⟨hg4, hg5⟩ hV c_15 hn
          exact ihw (mDs r Cl (Rw * Cl) x.1, true) H locs ls hw.2 ⟨lv_sub hl [0, 2, 3] rfl, hP, mD_any hD, hS, hw.1⟩
    · have hlt := mDs_lt r hg3 ⟨hg4, hg5⟩ hV1 hV2 hi5
      have hd1 : i5 / Cl < Rw := (Nat.div_lt_iff_lt_mul (by omega)).mpr c_38
      have hd2 : i5 % Cl < Cl := Nat.mod_lt _ (by omega)
      have hlt1 := hlt.1
      have hlt2 := hlt.2
      refine lv_iload hx hb dX5_drive_41 (lv_at hl 0 rfl) ?_
      refine lv_aload_n hx hb dX5_drive_43 rfl (lv_at hl 1 rfl) ?_
      refine va_get (D := G.1) (ci := 12) (v := .ref (ad 1)) (C := RX5) (T := TX5) (N := 15) hx hb hts in_X5 hown hE.1 hP 0 rfl rfl 0 (by decide) (hts _ q1135) (fun _ h9 => h9) rfl dX5_drive_44 ?_
      refine lv_iconst (v := 1) hx hb dX5_drive_47 (by decide) ?_
      refine ol_iald hx hb hE.1 hP 1 0 rfl rfl 1 (by decide) (by decide) dX5_drive_48 ?_
      refine ol_top (y := nI Cl) hg1 ?_
      refine ol_idiv hx hb i5 Cl (by omega) (by omega) (by omega) dX5_drive_49 ?_
      refine lv_istore (lv' := [(6, .int (nI (i5 / Cl))), (5, .int (nI i5)), (0, .ref (ad 0)), (1, .int (nI q)), (2, .int (zB x.2)), (3, .int (nI x.1.2)), (4, .int (nI x.1.1))]) hx hb dX5_drive_50 hl (by decide) rfl (fun ls hl => ?_)
      refine lv_iload hx hb dX5_drive_52 (lv_at hl 1 rfl) ?_
      refine lv_aload_n hx hb dX5_drive_54 rfl (lv_at hl 2 rfl) ?_
      refine va_get (D := G.1) (ci := 12) (v := .ref (ad 1)) (C := RX5) (T := TX5) (N := 15) hx hb hts in_X5 hown hE.1 hP 0 rfl rfl 0 (by decide) (hts _ q1135) (fun _ h9 => h9) rfl dX5_drive_55 ?_
      refine lv_iconst (v := 1) hx hb dX5_drive_58 (by decide) ?_
      refine ol_iald hx hb hE.1 hP 1 0 rfl rfl 1 (by decide) (by decide) dX5_drive_59 ?_
      refine ol_top (y := nI Cl) hg1 ?_
      refine ol_irem hx hb i5 Cl (by omega) (by omega) (by omega) dX5_drive_60 ?_
      refine lv_istore (lv' := [(7, .int (nI (i5 % Cl))), (6, .int (nI (i5 / Cl))), (5, .int (nI i5)), (0, .ref (ad 0)), (1, .int (nI q)), (2, .int (zB x.2)), (3, .int (nI x.1.2)), (4, .int (nI x.1.1))]) hx hb dX5_drive_61 hl (by decide) rfl (fun ls hl => ?_)
      refine lv_aload_n hx hb dX5_drive_63 rfl (lv_at hl 3 rfl) ?_
      refine lv_iload hx hb dX5_drive_64 (lv_at hl 2 rfl) ?_
      refine ol_cR (st1 := [.int (zB (dn r i5))]) (va_runV (As := [.int (nI i5)]) (rest := []) ⟨hx, hb, hml, hown, hts⟩ (mr_isDown l G ad iS iA iL iT (nI (mDs r Cl i5 x.1).2) (nI (mDs r Cl i5 x.1).1) r pr ar br f pf af bf tx i5 (by omega)) (cwV 1 hts (lw_V q1217 q1219 qs26 q73 q1220) rfl rfl rfl (by decide +kernel) ⟨Nat.le_of_ble_eq_true rfl, Nat.le_of_ble_eq_true rfl⟩) (oPc.preV hE (hE.recv (ci := 12) (hP 0 _ rfl) rfl) hP) rfl rfl hl.1 rfl (lv_room (Nat.le_of_ble_eq_true rfl)) dX5_drive_66 ⟨Nat.le_of_ble_eq_true rfl, Nat.le_of_ble_eq_true rfl⟩) rfl ?_
      refine ol_if_eqB hx hb (dn r i5) (tgt := 102) dX5_drive_69 (by decide) (fun c_69 => ?_) (fun c_69 => ?_)
      · refine lv_iconst (v := 0) hx hb dX5_drive_102 (by decide) ?_
        refine lv_istore (lv' := [(8, .int 0), (7, .int (nI (i5 % Cl))), (6, .int (nI (i5 / Cl))), (5, .int (nI i5)), (0, .ref (ad 0)), (1, .int (nI q)), (2, .int (zB x.2)), (3, .int (nI x.1.2)), (4, .int (nI x.1.1))]) hx hb dX5_drive_103 hl (by decide) rfl (fun ls hl => ?_)
        refine lv_aload_n hx hb dX5_drive_105 rfl (lv_at hl 4 rfl) ?_
        refine lv_dup hx hb dX5_drive_106 rfl ?_
        refine va_get (D := G.1) (ci := 12) (v := .int (nI (mDs r Cl i5 x.1).1)) (C := RX5) (T := TX5) (N := 15) hx hb hts in_X5 hown hE.1 hP 0 rfl rfl 14 (by decide) (hts _ q1149) (fun _ h9 => h9) rfl dX5_drive_107 ?_
        refine lv_iload hx hb dX5_drive_110 (lv_at hl 0 rfl) ?_
        refine ol_if_eq hx hb 0 (by omega) (tgt := 122) dX5_drive_112 (by decide) (fun c_112 => ?_) (fun c_112 => ?_)
        · refine lv_iconst (v := 0) hx hb dX5_drive_122 (by decide) ?_
          refine ol_ior hx hb ((mDs r Cl i5 x.1).1) 0 dX5_drive_123 ?_
          refine va_put (D := G.1) (ci := 12) (v := .int (nI (((mDs r Cl i5 x.1).1) ||| 0))) (ty := .int) (C := RX5) (T := TX5) (N := 15) hx hb hts in_X5 tyX5 tyX5_ok nmX5 hown hE.1 hP hD hS 0 rfl rfl 14 (by decide) (hts _ q1149) (fun _ h9 => h9) rfl (by decide +kernel) rfl rfl (Nat.le_of_ble_eq_true rfl) dX5_drive_124 (fun H locs hP hD hS => ?_)
          replace hP : va_P G.1 cl0 (mW G ad iS iA iL iT (nI (mDs r Cl i5 x.1).2) (nI (((mDs r Cl i5 x.1).1) ||| 0)) r pr ar br f pf af bf tx) H := hP
          replace hD : va_D (va_A (mW G ad iS iA iL iT iC iR r pr ar br f pf af bf tx) s.heap.size) (mW G ad iS iA iL iT (nI (mDs r Cl i5 x.1).2) (nI (((mDs r Cl i5 x.1).1) ||| 0)) r pr ar br f pf af bf tx) := hD
          refine lv_aload_n hx hb dX5_drive_127 rfl (lv_at hl 4 rfl) ?_
          refine lv_dup hx hb dX5_drive_128 rfl ?_
          refine va_get (D := G.1) (ci := 12) (v := .int (nI (mDs r Cl i5 x.1).2)) (C := RX5) (T := TX5) (N := 15) hx hb hts in_X5 hown hE.1 hP 0 rfl rfl 13 (by decide) (hts _ q1148) (fun _ h9 => h9) rfl dX5_drive_129 ?_
          refine lv_iload hx hb dX5_drive_132 (lv_at hl 0 rfl) ?_
          refine ol_if_eq hx hb 0 (by omega) (tgt := 144) dX5_drive_134 (by decide) (fun c_134 => ?_) (fun c_134 => ?_)
          · refine lv_iconst (v := 0) hx hb dX5_drive_144 (by decide) ?_
            refine ol_ior hx hb ((mDs r Cl i5 x.1).2) 0 dX5_drive_145 ?_
            refine va_put (D := G.1) (ci := 12) (v := .int (nI (((mDs r Cl i5 x.1).2) ||| 0))) (ty := .int) (C := RX5) (T := TX5) (N := 15) hx hb hts in_X5 tyX5 tyX5_ok nmX5 hown hE.1 hP hD hS 0 rfl rfl 13 (by decide) (hts _ q1148) (fun _ h9 => h9) rfl (by decide +kernel) rfl rfl (Nat.le_of_ble_eq_true rfl) dX5_drive_146 (fun H locs hP hD hS => ?_)
            replace hP : va_P G.1 cl0 (mW G ad iS iA iL iT (nI (((mDs r Cl i5 x.1).2) ||| 0)) (nI (((mDs r Cl i5 x.1).1) ||| 0)) r pr ar br f pf af bf tx) H := hP
            replace hD : va_D (va_A (mW G ad iS iA iL iT iC iR r pr ar br f pf af bf tx) s.heap.size) (mW G ad iS iA iL iT (nI (((mDs r Cl i5 x.1).2) ||| 0)) (nI (((mDs r Cl i5 x.1).1) ||| 0)) r pr ar br f pf af bf tx) := hD
            refine ol_iinc (k := 3) (lv' := [(5, .int (nI (i5 + 1))), (8, .int 0), (7, .int (nI (i5 % Cl))), (6, .int (nI (i5 / Cl))), (0, .ref (ad 0)), (1, .int (nI q)), (2, .int (zB x.2)), (3, .int (nI x.1.2)), (4, .int (nI x.1.1))]) hx hb 1 i5 dX5_drive_149 hl rfl (by decide) rfl (fun ls hl => ?_)
            refine lv_goto (tgt := 32) hx hb dX5_drive_152 (by decide) ?_
            refine ih5 H locs ls (by omega) ⟨?_, ?_, ?_, hS⟩
            · exact lv_sub hl [0, 4, 5, 6, 7, 8] rfl
            · rw [show mDs r Cl (i5 + 1) x.1 = (((mDs r Cl i5 x.1).1) ||| 0, ((mDs r Cl i5 x.1).2) ||| 0) from by simp [mDs, c_15, c_38, Nat.not_le.mpr c_38, c_69, c_112, c_134]]; exact hP
            · exact mD_any hD
          · exact absurd c_134 (by decide)
        · exact absurd c_112 (by decide)
      · refine lv_aload_n hx hb dX5_drive_72 rfl (lv_at hl 3 rfl) ?_
        refine va_get (D := G.1) (ci := 12) (v := .int (nI (mDs r Cl i5 x.1).1)) (C := RX5) (T := TX5) (N := 15) hx hb hts in_X5 hown hE.1 hP 0 rfl rfl 14 (by decide) (hts _ q1149) (fun _ h9 => h9) rfl dX5_drive_73 ?_
        refine lv_iload hx hb dX5_drive_76 (lv_at hl 1 rfl) ?_
        refine lv_ishr hx hb dX5_drive_78 ?_
        refine lv_iconst (v := 1) hx hb dX5_drive_79 (by decide) ?_
        refine lv_iand hx hb dX5_drive_80 ?_
        refine ol_top (y := zB (Nat.testBit ((mDs r Cl i5 x.1).1) (i5 / Cl))) (nb_bit (by omega) (by omega)) ?_
        refine lv_iconst (v := 1) hx hb dX5_drive_81 (by decide) ?_
        refine ol_icmp_eqB hx hb (Nat.testBit ((mDs r Cl i5 x.1).1) (i5 / Cl)) (tgt := 98) dX5_drive_82 (by decide) (fun c_82 => ?_) (fun c_82 => ?_)
        · refine lv_iconst (v := 1) hx hb dX5_drive_98 (by decide) ?_
          refine lv_goto (tgt := 103) hx hb dX5_drive_99 (by decide) ?_
          refine lv_istore (lv' := [(8, .int 1), (7, .int (nI (i5 % Cl))), (6, .int (nI (i5 / Cl))), (5, .int (nI i5)), (0, .ref (ad 0)), (1, .int (nI q)), (2, .int (zB x.2)), (3, .int (nI x.1.2)), (4, .int (nI x.1.1))]) hx hb dX5_drive_103 hl (by decide) rfl (fun ls hl => ?_)
          refine lv_aload_n hx hb dX5_drive_105 rfl (lv_at hl 4 rfl) ?_
          refine lv_dup hx hb dX5_drive_106 rfl ?_
          refine va_get (D := G.1) (ci := 12) (v := .int (nI (mDs r Cl i5 x.1).1)) (C := RX5) (T := TX5) (N := 15) hx hb hts in_X5 hown hE.1 hP 0 rfl rfl 14 (by decide) (hts _ q1149) (fun _ h9 => h9) rfl dX5_drive_107 ?_
          refine lv_iload hx hb dX5_drive_110 (lv_at hl 0 rfl) ?_
          refine ol_if_eq hx hb 1 (by omega) (tgt := 122) dX5_drive_112 (by decide) (fun c_112 => ?_) (fun c_112 => ?_)
          · exact absurd c_112 (by decide)
          · refine lv_iconst (v := 1) hx hb dX5_drive_115 (by decide) ?_
            refine lv_iload hx hb dX5_drive_116 (lv_at hl 2 rfl) ?_
            refine lv_ishl hx hb dX5_drive_118 ?_
            refine ol_top (y := nI (2 ^ (i5 / Cl))) (nb_shl (by omega)) ?_
            refine lv_goto (tgt := 123) hx hb dX5_drive_119 (by decide) ?_
            refine ol_ior hx hb ((mDs r Cl i5 x.1).1) (2 ^ (i5 / Cl)) dX5_drive_123 ?_
            refine va_put (D := G.1) (ci := 12) (v := .int (nI (((mDs r Cl i5 x.1).1) ||| (2 ^ (i5 / Cl))))) (ty := .int) (C := RX5) (T := TX5) (N := 15) hx hb hts in_X5 tyX5 tyX5_ok nmX5 hown hE.1 hP hD hS 0 rfl rfl 14 (by decide) (hts _ q1149) (fun _ h9 => h9) rfl (by decide +kernel) rfl rfl (Nat.le_of_ble_eq_true rfl) dX5_drive_124 (fun H locs hP hD hS => ?_)
            replace hP : va_P G.1 cl0 (mW G ad iS iA iL iT (nI (mDs r Cl i5 x.1).2) (nI (((mDs r Cl i5 x.1).1) ||| (2 ^ (i5 / Cl)))) r pr ar br f pf af bf tx) H := hP
            replace hD : va_D (va_A (mW G ad iS iA iL iT iC iR r pr ar br f pf af bf tx) s.heap.size) (mW G ad iS iA iL iT (nI (mDs r Cl i5 x.1).2) (nI (((mDs r Cl i5 x.1).1) ||| (2 ^ (i5 / Cl)))) r pr ar br f pf af bf tx) := hD
            refine lv_aload_n hx hb dX5_drive_127 rfl (lv_at hl 4 rfl) ?_
            refine lv_dup hx hb dX5_drive_128 rfl ?_
            refine va_get (D := G.1) (ci := 12) (v := .int (nI (mDs r Cl i5 x.1).2)) (C := RX5) (T := TX5) (N := 15) hx hb hts in_X5 hown hE.1 hP 0 rfl rfl 13 (by decide) (hts _ q1148) (fun _ h9 => h9) rfl dX5_drive_129 ?_
            refine lv_iload hx hb dX5_drive_132 (lv_at hl 0 rfl) ?_
            refine ol_if_eq hx hb 1 (by omega) (tgt := 144) dX5_drive_134 (by decide) (fun c_134 => ?_) (fun c_134 => ?_)
            · exact absurd c_134 (by decide)
            · refine lv_iconst (v := 1) hx hb dX5_drive_137 (by decide) ?_
              refine lv_iload hx hb dX5_drive_138 (lv_at hl 1 rfl) ?_
              refine lv_ishl hx hb dX5_drive_140 ?_
              refine ol_top (y := nI (2 ^ (i5 % Cl))) (nb_shl (by omega)) ?_
              refine lv_goto (tgt := 145) hx hb dX5_drive_141 (by decide) ?_
              refine ol_ior hx hb ((mDs r Cl i5 x.1).2) (2 ^ (i5 % Cl)) dX5_drive_145 ?_
              refine va_put (D := G.1) (ci := 12) (v := .int (nI (((mDs r Cl i5 x.1).2) ||| (2 ^ (i5 % Cl))))) (ty := .int) (C := RX5) (T := TX5) (N := 15) hx hb hts in_X5 tyX5 tyX5_ok nmX5 hown hE.1 hP hD hS 0 rfl rfl 13 (by decide) (hts _ q1148) (fun _ h9 => h9) rfl (by decide +kernel) rfl rfl (Nat.le_of_ble_eq_true rfl) dX5_drive_146 (fun H locs hP hD hS => ?_)
              replace hP : va_P G.1 cl0 (mW G ad iS iA iL iT (nI (((mDs r Cl i5 x.1).2) ||| (2 ^ (i5 % Cl)))) (nI (((mDs r Cl i5 x.1).1) ||| (2 ^ (i5 / Cl)))) r pr ar br f pf af bf tx) H := hP
              replace hD : va_D (va_A (mW G ad iS iA iL iT iC iR r pr ar br f pf af bf tx) s.heap.size) (mW G ad iS iA iL iT (nI (((mDs r Cl i5 x.1).2) ||| (2 ^ (i5 % Cl)))) (nI (((mDs r Cl i5 x.1).1) ||| (2 ^ (i5 / Cl)))) r pr ar br f pf af bf tx) := hD
              refine ol_iinc (k := 3) (lv' := [(5, .int (nI (i5 + 1))), (8, .int 1), (7, .int (nI (i5 % Cl))), (6, .int (nI (i5 / Cl))), (0, .ref (ad 0)), (1, .int (nI q)), (2, .int (zB x.2)), (3, .int (nI x.1.2)), (4, .int (nI x.1.1))]) hx hb 1 i5 dX5_drive_149 hl rfl (by decide) rfl (fun ls hl => ?_)
              refine lv_goto (tgt := 32) hx hb dX5_drive_152 (by decide) ?_
              refine ih5 H locs ls (by omega) ⟨?_, ?_, ?_, hS⟩
              · exact lv_sub hl [0, 4, 5, 6, 7, 8] rfl
              · rw [show mDs r Cl (i5 + 1) x.1 = (((mDs r Cl i5 x.1).1) ||| (2 ^ (i5 / Cl)), ((mDs r Cl i5 x.1).2) ||| (2 ^ (i5 % Cl))) from by simp [mDs, c_15, c_38, Nat.not_le.mpr c_38, c_69, c_82, c_112, c_134]]; exact hP
              · exact mD_any hD
        · refine lv_aload_n hx hb dX5_drive_85 rfl (lv_at hl 3 rfl) ?_
          refine va_get (D := G.1) (ci := 12) (v := .int (nI (mDs r Cl i5 x.1).2)) (C := RX5) (T := TX5) (N := 15) hx hb hts in_X5 hown hE.1 hP 0 rfl rfl 13 (by decide) (hts _ q1148) (fun _ h9 => h9) rfl dX5_drive_86 ?_
          refine lv_iload hx hb dX5_drive_89 (lv_at hl 0 rfl) ?_
          refine lv_ishr hx hb dX5_drive_91 ?_
          refine lv_iconst (v := 1) hx hb dX5_drive_92 (by decide) ?_
          refine lv_iand hx hb dX5_drive_93 ?_
          refine ol_top (y := zB (Nat.testBit ((mDs r Cl i5 x.1).2) (i5 % Cl))) (nb_bit (by omega) (by omega)) ?_
          refine lv_iconst (v := 1) hx hb dX5_drive_94 (by decide) ?_
          refine ol_icmp_neB hx hb (Nat.testBit ((mDs r Cl i5 x.1).2) (i5 % Cl)) (tgt := 102) dX5_drive_95 (by decide) (fun c_95 => ?_) (fun c_95 => ?_)
          · refine lv_iconst (v := 0) hx hb dX5_drive_102 (by decide) ?_
            refine lv_istore (lv' := [(8, .int 0), (7, .int (nI (i5 % Cl))), (6, .int (nI (i5 / Cl))), (5, .int (nI i5)), (0, .ref (ad 0)), (1, .int (nI q)), (2, .int (zB x.2)), (3, .int (nI x.1.2)), (4, .int (nI x.1.1))]) hx hb dX5_drive_103 hl (by decide) rfl (fun ls hl => ?_)
            refine lv_aload_n hx hb dX5_drive_105 rfl (lv_at hl 4 rfl) ?_
            refine lv_dup hx hb dX5_drive_106 rfl ?_
            refine va_get (D := G.1) (ci := 12) (v := .int (nI (mDs r Cl i5 x.1).1)) (C := RX5) (T := TX5) (N := 15) hx hb hts in_X5 hown hE.1 hP 0 rfl rfl 14 (by decide) (hts _ q1149) (fun _ h9 => h9) rfl dX5_drive_107 ?_
            refine lv_iload hx hb dX5_drive_110 (lv_at hl 0 rfl) ?_
            refine ol_if_eq hx hb 0 (by omega) (tgt := 122) dX5_drive_112 (by decide) (fun c_112 => ?_) (fun c_112 => ?_)
            · refine lv_iconst (v := 0) hx hb dX5_drive_122 (by decide) ?_
              refine ol_ior hx hb ((mDs r Cl i5 x.1).1) 0 dX5_drive_123 ?_
              refine va_put (D := G.1) (ci := 12) (v := .int (nI (((mDs r Cl i5 x.1).1) ||| 0))) (ty := .int) (C := RX5) (T := TX5) (N := 15) hx hb hts in_X5 tyX5 tyX5_ok nmX5 hown hE.1 hP hD hS 0 rfl rfl 14 (by decide) (hts _ q1149) (fun _ h9 => h9) rfl (by decide +kernel) rfl rfl (Nat.le_of_ble_eq_true rfl) dX5_drive_124 (fun H locs hP hD hS => ?_)
              replace hP : va_P G.1 cl0 (mW G ad iS iA iL iT (nI (mDs r Cl i5 x.1).2) (nI (((mDs r Cl i5 x.1).1) ||| 0)) r pr ar br f pf af bf tx) H := hP
              replace hD : va_D (va_A (mW G ad iS iA iL iT iC iR r pr ar br f pf af bf tx) s.heap.size) (mW G ad iS iA iL iT (nI (mDs r Cl i5 x.1).2) (nI (((mDs r Cl i5 x.1).1) ||| 0)) r pr ar br f pf af bf tx) := hD
              refine lv_aload_n hx hb dX5_drive_127 rfl (lv_at hl 4 rfl) ?_
              refine lv_dup hx hb dX5_drive_128 rfl ?_
              refine va_get (D := G.1) (ci := 12) (v := .int (nI (mDs r Cl i5 x.1).2)) (C := RX5) (T := TX5) (N := 15) hx hb hts in_X5 hown hE.1 hP 0 rfl rfl 13 (by decide) (hts _ q1148) (fun _ h9 => h9) rfl dX5_drive_129 ?_
              refine lv_iload hx hb dX5_drive_132 (lv_at hl 0 rfl) ?_
              refine ol_if_eq hx hb 0 (by omega) (tgt := 144) dX5_drive_134 (by decide) (fun c_134 => ?_) (fun c_134 => ?_)
              · refine lv_iconst (v := 0) hx hb dX5_drive_144 (by decide) ?_
                refine ol_ior hx hb ((mDs r Cl i5 x.1).2) 0 dX5_drive_145 ?_
                refine va_put (D := G.1) (ci := 12) (v := .int (nI (((mDs r Cl i5 x.1).2) ||| 0))) (ty := .int) (C := RX5) (T := TX5) (N := 15) hx hb hts in_X5 tyX5 tyX5_ok nmX5 hown hE.1 hP hD hS 0 rfl rfl 13 (by decide) (hts _ q1148) (fun _ h9 => h9) rfl (by decide +kernel) rfl rfl (Nat.le_of_ble_eq_true rfl) dX5_drive_146 (fun H locs hP hD hS => ?_)
                replace hP : va_P G.1 cl0 (mW G ad iS iA iL iT (nI (((mDs r Cl i5 x.1).2) ||| 0)) (nI (((mDs r Cl i5 x.1).1) ||| 0)) r pr ar br f pf af bf tx) H := hP
                replace hD : va_D (va_A (mW G ad iS iA iL iT iC iR r pr ar br f pf af bf tx) s.heap.size) (mW G ad iS iA iL iT (nI (((mDs r Cl i5 x.1).2) ||| 0)) (nI (((mDs r Cl i5 x.1).1) ||| 0)) r pr ar br f pf af bf tx) := hD
                refine ol_iinc (k := 3) (lv' := [(5, .int (nI (i5 + 1))), (8, .int 0), (7, .int (nI (i5 % Cl))), (6, .int (nI (i5 / Cl))), (0, .ref (ad 0)), (1, .int (nI q)), (2, .int (zB x.2)), (3, .int (nI x.1.2)), (4, .int (nI x.1.1))]) hx hb 1 i5 dX5_drive_149 hl rfl (by decide) rfl (fun ls hl => ?_)
                refine lv_goto (tgt := 32) hx hb dX5_drive_152 (by decide) ?_
                refine ih5 H locs ls (by omega) ⟨?_, ?_, ?_, hS⟩
                · exact lv_sub hl [0, 4, 5, 6, 7, 8] rfl
                · rw [show mDs r Cl (i5 + 1) x.1 = (((mDs r Cl i5 x.1).1) ||| 0, ((mDs r Cl i5 x.1).2) ||| 0) from by simp [mDs, c_15, c_38, Nat.not_le.mpr c_38, c_69, c_82, c_95, c_112, c_134]]; exact hP
                · exact mD_any hD
              · exact absurd c_134 (by decide)
            · exact absurd c_112 (by decide)
          · refine lv_iconst (v := 1) hx hb dX5_drive_98 (by decide) ?_
            refine lv_goto (tgt := 103) hx hb dX5_drive_99 (by decide) ?_
            refine lv_istore (lv' := [(8, .int 1), (7, .int (nI (i5 % Cl))), (6, .int (nI (i5 / Cl))), (5, .int (nI i5)), (0, .ref (ad 0)), (1, .int (nI q)), (2, .int (zB x.2)), (3, .int (nI x.1.2)), (4, .int (nI x.1.1))]) hx hb dX5_drive_103 hl (by decide) rfl (fun ls hl => ?_)
            refine lv_aload_n hx hb dX5_drive_105 rfl (lv_at hl 4 rfl) ?_
            refine lv_dup hx hb dX5_drive_106 rfl ?_
            refine va_get (D := G.1) (ci := 12) (v := .int (nI (mDs r Cl i5 x.1).1)) (C := RX5) (T := TX5) (N := 15) hx hb hts in_X5 hown hE.1 hP 0 rfl rfl 14 (by decide) (hts _ q1149) (fun _ h9 => h9) rfl dX5_drive_107 ?_
            refine lv_iload hx hb dX5_drive_110 (lv_at hl 0 rfl) ?_
            refine ol_if_eq hx hb 1 (by omega) (tgt := 122) dX5_drive_112 (by decide) (fun c_112 => ?_) (fun c_112 => ?_)
            · exact absurd c_112 (by decide)
            · refine lv_iconst (v := 1) hx hb dX5_drive_115 (by decide) ?_
              refine lv_iload hx hb dX5_drive_116 (lv_at hl 2 rfl) ?_
              refine lv_ishl hx hb dX5_drive_118 ?_
              refine ol_top (y := nI (2 ^ (i5 / Cl))) (nb_shl (by omega)) ?_
              refine lv_goto (tgt := 123) hx hb dX5_drive_119 (by decide) ?_
              refine ol_ior hx hb ((mDs r Cl i5 x.1).1) (2 ^ (i5 / Cl)) dX5_drive_123 ?_
              refine va_put (D := G.1) (ci := 12) (v := .int (nI (((mDs r Cl i5 x.1).1) ||| (2 ^ (i5 / Cl))))) (ty := .int) (C := RX5) (T := TX5) (N := 15) hx hb hts in_X5 tyX5 tyX5_ok nmX5 hown hE.1 hP hD hS 0 rfl rfl 14 (by decide) (hts _ q1149) (fun _ h9 => h9) rfl (by decide +kernel) rfl rfl (Nat.le_of_ble_eq_true rfl) dX5_drive_124 (fun H locs hP hD hS => ?_)
              replace hP : va_P G.1 cl0 (mW G ad iS iA iL iT (nI (mDs r Cl i5 x.1).2) (nI (((mDs r Cl i5 x.1).1) ||| (2 ^ (i5 / Cl)))) r pr ar br f pf af bf tx) H := hP
              replace hD : va_D (va_A (mW G ad iS iA iL iT iC iR r pr ar br f pf af bf tx) s.heap.size) (mW G ad iS iA iL iT (nI (mDs r Cl i5 x.1).2) (nI (((mDs r Cl i5 x.1).1) ||| (2 ^ (i5 / Cl)))) r pr ar br f pf af bf tx) := hD
              refine lv_aload_n hx hb dX5_drive_127 rfl (lv_at hl 4 rfl) ?_
              refine lv_dup hx hb dX5_drive_128 rfl ?_
              refine va_get (D := G.1) (ci := 12) (v := .int (nI (mDs r Cl i5 x.1).2)) (C := RX5) (T := TX5) (N := 15) hx hb hts in_X5 hown hE.1 hP 0 rfl rfl 13 (by decide) (hts _ q1148) (fun _ h9 => h9) rfl dX5_drive_129 ?_
              refine lv_iload hx hb dX5_drive_132 (lv_at hl 0 rfl) ?_
              refine ol_if_eq hx hb 1 (by omega) (tgt := 144) dX5_drive_134 (by decide) (fun c_134 => ?_) (fun c_134 => ?_)
              · exact absurd c_134 (by decide)
              · refine lv_iconst (v := 1) hx hb dX5_drive_137 (by decide) ?_
                refine lv_iload hx hb dX5_drive_138 (lv_at hl 1 rfl) ?_
                refine lv_ishl hx hb dX5_drive_140 ?_
                refine ol_top (y := nI (2 ^ (i5 % Cl))) (nb_shl (by omega)) ?_
                refine lv_goto (tgt := 145) hx hb dX5_drive_141 (by decide) ?_
                refine ol_ior hx hb ((mDs r Cl i5 x.1).2) (2 ^ (i5 % Cl)) dX5_drive_145 ?_
                refine va_put (D := G.1) (ci := 12) (v := .int (nI (((mDs r Cl i5 x.1).2) ||| (2 ^ (i5 % Cl))))) (ty := .int) (C := RX5) (T := TX5) (N := 15) hx hb hts in_X5 tyX5 tyX5_ok nmX5 hown hE.1 hP hD hS 0 rfl rfl 13 (by decide) (hts _ q1148) (fun _ h9 => h9) rfl (by decide +kernel) rfl rfl (Nat.le_of_ble_eq_true rfl) dX5_drive_146 (fun H locs hP hD hS => ?_)
                replace hP : va_P G.1 cl0 (mW G ad iS iA iL iT (nI (((mDs r Cl i5 x.1).2) ||| (2 ^ (i5 % Cl)))) (nI (((mDs r Cl i5 x.1).1) ||| (2 ^ (i5 / Cl)))) r pr ar br f pf af bf tx) H := hP
                replace hD : va_D (va_A (mW G ad iS iA iL iT iC iR r pr ar br f pf af bf tx) s.heap.size) (mW G ad iS iA iL iT (nI (((mDs r Cl i5 x.1).2) ||| (2 ^ (i5 % Cl)))) (nI (((mDs r Cl i5 x.1).1) ||| (2 ^ (i5 / Cl)))) r pr ar br f pf af bf tx) := hD
                refine ol_iinc (k := 3) (lv' := [(5, .int (nI (i5 + 1))), (8, .int 1), (7, .int (nI (i5 % Cl))), (6, .int (nI (i5 / Cl))), (0, .ref (ad 0)), (1, .int (nI q)), (2, .int (zB x.2)), (3, .int (nI x.1.2)), (4, .int (nI x.1.1))]) hx hb 1 i5 dX5_drive_149 hl rfl (by decide) rfl (fun ls hl => ?_)
                refine lv_goto (tgt := 32) hx hb dX5_drive_152 (by decide) ?_
                refine ih5 H locs ls (by omega) ⟨?_, ?_, ?_, hS⟩
                · exact lv_sub hl [0, 4, 5, 6, 7, 8] rfl
                · rw [show mDs r Cl (i5 + 1) x.1 = (((mDs r Cl i5 x.1).1) ||| (2 ^ (i5 / Cl)), ((mDs r Cl i5 x.1).2) ||| (2 ^ (i5 % Cl))) from by simp [mDs, c_15, c_38, Nat.not_le.mpr c_38, c_69, c_82, c_95, c_112, c_134]]; exact hP
                · exact mD_any hD
set_option maxHeartbeats 4000000 in
set_option maxRecDepth 100000 in
theorem mm_wouldSense (l : Launch) (G : oG) (ad : Nat → Nat) (iS : Int32) (iA : Int32) (iL : Int32) (iT : Int32) (iC : Int32) (iR : Int32) (r : Nat → Int32) (pr : Nat → Int32) (ar : Nat → Int32) (br : Nat → Int32) (f : Nat → UInt32) (pf : Nat → UInt32) (af : Nat → UInt32) (bf : Nat → UInt32) (tx : Nat → Int32) (k : Nat) (Rw Cl : Nat) (hg : mG r Rw Cl) (hk : k < Rw * Cl) (sz : Nat) : Met l yX5_wouldSense (ws_ yX5_wouldSense cX5_wouldSense 2 (some .boolean)) ({ frames := 2, cells := 0, slots := 0, locals := 49 }) (oPc G [.ref (ad 0), .int (nI k)] (oPE G (mW G ad iS iA iL iT iC iR r pr ar br f pf af bf tx) sz (fun _ => True))) (oE G (fun v_ W_ => v_ = some (.int (zB (mWs r Rw Cl k))) ∧ W_ = mW G ad iS iA iL iT (nI (mDrv r Rw Cl (k / Cl)).2) (nI (mDrv r Rw Cl (k / Cl)).1) r pr ar br f pf af bf tx) (mW G ad iS iA iL iT iC iR r pr ar br f pf af bf tx) sz) 0 0 (va_A (mW G ad iS iA iL iT iC iR r pr ar br f pf af bf tx) sz) := by
  refine Met.ofW (cc := cX5_wouldSense) (maxL := 2) (ret := (some .boolean)) (by decide) rfl ?_
  intro p e s m args below meth c s₁ B hml hv
  obtain ⟨rfl, ⟨hsz, hP, hD0, hX⟩, hE⟩ := hv
  have hx := B.exec
  have hb := B.bytes
  have hr := B.returns
  have hts := atoms_spec (ws := ws_ yX5_wouldSense cX5_wouldSense 2 (some .boolean)) B.pre
  have hts : ∀ w ∈ lw_all, w.before _ s = true := fun w h => hts w (List.mem_cons_of_mem _ h)
  have hown : s.vm.findClass RX5 = some m.cls := findClass_of_methodNamed B.named
  have hlocks := B.notSynchronized
  subst hsz
  have hD := hD0.self (sz := s.heap.size)
  have hA : ∀ q : Nat, s.heap.size ≤ q → va_A (mW G ad iS iA iL iT iC iR r pr ar br f pf af bf tx) s.heap.size q := fun q h => Or.inr h
  have hl := lv_entry ([.ref (ad 0), .int (nI k)]) (n := 2) (Nat.le_of_ble_eq_true rfl)
  rw [lg_entry_eq]
  generalize (lg_sl ([.ref (ad 0), .int (nI k)]) ++ List.replicate (2 - (lg_sl ([.ref (ad 0), .int (nI k)])).length) Slot.unset).toArray = ls at hl ⊢
  replace hl : lv_has ls 2 [(0, .ref (ad 0)), (1, .int (nI k))] := hl
  refine ol_start (A := va_A (mW G ad iS iA iL iT iC iR r pr ar br f pf af bf tx) s.heap.size) (fun H locs hH hS => ?_)
  rw [← hH] at hP
  clear hH
  have hgn := mG_n hg
  have hg' := hg
  obtain ⟨hg0, hg1, hg2, hg3, hg4, hg5⟩ := hg'
  have hd1 : k / Cl < Rw := (Nat.div_lt_iff_lt_mul (by omega)).mpr hk
  have hd2 : k % Cl < Cl := Nat.mod_lt _ (by omega)
  have hlt := mDrv_lt (r := r) (q := k / Cl) hg3 ⟨hg4, hg5⟩ (by omega)
  have hlt1 := hlt.1
  have hlt2 := hlt.2
  refine lv_aload_n hx hb dX5_wouldSense_0 rfl (lv_at hl 0 rfl) ?_
  refine lv_iload_n hx hb dX5_wouldSense_1 rfl (lv_at hl 1 rfl) ?_
  refine lv_aload_n hx hb dX5_wouldSense_2 rfl (lv_at hl 0 rfl) ?_
  refine va_get (D := G.1) (ci := 12) (v := .ref (ad 1)) (C := RX5) (T := TX5) (N := 15) hx hb hts in_X5 hown hE.1 hP 0 rfl rfl 0 (by decide) (hts _ q1135) (fun _ h9 => h9) rfl dX5_wouldSense_3 ?_
  refine lv_iconst (v := 1) hx hb dX5_wouldSense_6 (by decide) ?_
  refine ol_iald hx hb hE.1 hP 1 0 rfl rfl 1 (by decide) (by decide) dX5_wouldSense_7 ?_
  refine ol_top (y := nI Cl) hg1 ?_
  refine ol_idiv hx hb k Cl (by omega) (by omega) (by omega) dX5_wouldSense_8 ?_
  refine ol_cM (st1 := []) (va_runV (As := [.int (nI (k / Cl))]) (rest := []) ⟨hx, hb, hml, hown, hts⟩ (mm_drive l G ad iS iA iL iT iC iR r pr ar br f pf af bf tx (k / Cl) Rw Cl hg (by omega) H.size) (cwV 1 hts (lw_V q1296 q1298 qs36 q73 q1299) rfl rfl rfl (by decide +kernel) ⟨Nat.le_of_ble_eq_true rfl, Nat.le_of_ble_eq_true rfl⟩) (oPc.preV hE (hE.recv (ci := 12) (hP 0 _ rfl) rfl) ⟨rfl, hP, oD_weak hD (fun _ _ => trivial), trivial⟩) rfl rfl hl.1 rfl (lv_room (Nat.le_of_ble_eq_true rfl)) dX5_wouldSense_9 ⟨Nat.le_of_ble_eq_true rfl, Nat.le_of_ble_eq_true rfl⟩) hP hD hS hA rfl (fun H locs hP hD hS => ?_)
  refine lv_aload_n hx hb dX5_wouldSense_12 rfl (lv_at hl 0 rfl) ?_
  refine va_get (D := G.1) (ci := 12) (v := .int (nI (mDrv r Rw Cl (k / Cl)).2)) (C := RX5) (T := TX5) (N := 15) hx hb hts in_X5 hown hE.1 hP 0 rfl rfl 13 (by decide) (hts _ q1148) (fun _ h9 => h9) rfl dX5_wouldSense_13 ?_
  refine lv_iload_n hx hb dX5_wouldSense_16 rfl (lv_at hl 1 rfl) ?_
  refine lv_aload_n hx hb dX5_wouldSense_17 rfl (lv_at hl 0 rfl) ?_
  refine va_get (D := G.1) (ci := 12) (v := .ref (ad 1)) (C := RX5) (T := TX5) (N := 15) hx hb hts in_X5 hown hE.1 hP 0 rfl rfl 0 (by decide) (hts _ q1135) (fun _ h9 => h9) rfl dX5_wouldSense_18 ?_
  refine lv_iconst (v := 1) hx hb dX5_wouldSense_21 (by decide) ?_
  refine ol_iald hx hb hE.1 hP 1 0 rfl rfl 1 (by decide) (by decide) dX5_wouldSense_22 ?_
  refine ol_top (y := nI Cl) hg1 ?_
  refine ol_irem hx hb k Cl (by omega) (by omega) (by omega) dX5_wouldSense_23 ?_
  refine lv_ishr hx hb dX5_wouldSense_24 ?_
  refine lv_iconst (v := 1) hx hb dX5_wouldSense_25 (by decide) ?_
  refine lv_iand hx hb dX5_wouldSense_26 ?_
  refine ol_top (y := zB (Nat.testBit ((mDrv r Rw Cl (k / Cl)).2) (k % Cl))) (nb_bit (by omega) (by omega)) ?_
  refine lv_iconst (v := 1) hx hb dX5_wouldSense_27 (by decide) ?_
  refine ol_icmp_neB hx hb (Nat.testBit ((mDrv r Rw Cl (k / Cl)).2) (k % Cl)) (tgt := 35) dX5_wouldSense_28 (by decide) (fun c_28 => ?_) (fun c_28 => ?_)
  · refine lv_iconst (v := 0) hx hb dX5_wouldSense_35 (by decide) ?_
    exact ol_zretE (r := mWs r Rw Cl k) hx hb hr hlocks (by simp [mWs, zB, c_28]) ⟨rfl, rfl⟩ hP hD hS dX5_wouldSense_36
  · refine lv_iconst (v := 1) hx hb dX5_wouldSense_31 (by decide) ?_
    refine lv_goto (tgt := 36) hx hb dX5_wouldSense_32 (by decide) ?_
    exact ol_zretE (r := mWs r Rw Cl k) hx hb hr hlocks (by simp [mWs, zB, c_28]) ⟨rfl, rfl⟩ hP hD hS dX5_wouldSense_36
