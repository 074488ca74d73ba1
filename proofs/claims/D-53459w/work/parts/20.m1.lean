/-! THE REFERENCE: its world, and what its reading methods answer -/
/-- the reference's ten cells -/
abbrev mW (G : oG) (ad : Nat → Nat) (iS iA iL iT iC iR : Int32) (r pr ar br : Nat → Int32) (f pf af bf : Nat → UInt32) (tx : Nat → Int32) : va_W := [(ad 0, .inr (12, [.ref (ad 1), .ref (ad 2), .ref (ad 3), .ref (ad 4), .ref (ad 5), .ref (ad 6), .ref (ad 7), .ref (ad 8), .int iS, .int iA, .ref (ad 9), .int iL, .int iT, .int iC, .int iR])), (ad 1, .inl (G.2 0, 592, .inl r)), (ad 2, .inl (G.2 0, 2368, .inl pr)), (ad 3, .inl (G.2 0, 592, .inl ar)), (ad 4, .inl (G.2 0, 592, .inl br)), (ad 5, .inl (G.2 2, 7, .inr (.inr (.inl f)))), (ad 6, .inl (G.2 2, 28, .inr (.inr (.inl pf)))), (ad 7, .inl (G.2 2, 7, .inr (.inr (.inl af)))), (ad 8, .inl (G.2 2, 7, .inr (.inr (.inl bf)))), (ad 9, .inl (G.2 4, 60, .inl tx))]
theorem mD_any {A : Nat → Prop} {G : oG} {ad : Nat → Nat} {iS iA iL iT iC iR iS' iA' iL' iT' iC' iR' : Int32} {r pr ar br r' pr' ar' br' : Nat → Int32} {f pf af bf f' pf' af' bf' : Nat → UInt32} {tx tx' : Nat → Int32} (h : va_D A (mW G ad iS iA iL iT iC iR r pr ar br f pf af bf tx)) : va_D A (mW G ad iS' iA' iL' iT' iC' iR' r' pr' ar' br' f' pf' af' bf' tx') := oD_ad h rfl
/-- the shape of the keyboard -/
def mG (r : Nat → Int32) (Rw Cl : Nat) : Prop := r 0 = nI Rw ∧ r 1 = nI Cl ∧ 2 ≤ Rw ∧ Rw ≤ 6 ∧ 2 ≤ Cl ∧ Cl ≤ 8
theorem mG_n {r : Nat → Int32} {Rw Cl : Nat} (h : mG r Rw Cl) : 4 ≤ Rw * Cl ∧ Rw * Cl ≤ 48 := by
  obtain ⟨-, -, h1, h2, h3, h4⟩ := h
  exact ⟨Nat.mul_le_mul h1 h3, Nat.mul_le_mul h2 h4⟩
theorem mG_upd {r : Nat → Int32} {Rw Cl k : Nat} {x : Int32} (hk : 1 < k) (h : mG r Rw Cl) : mG (upd r k x) Rw Cl := by
  obtain ⟨h0, h1, h⟩ := h
  exact ⟨by rw [pk_un (by omega)]; exact h0, by rw [pk_un (by omega)]; exact h1, h⟩
def cN (x : Int32) : Nat := x.toNatClampNeg
def inR (v lo hi : Int32) : Bool := !decide (v < lo) && !decide (hi < v)
def noK (k : Int32) (n : Nat) : Bool := !inR k 0 (nI (n - 1))
theorem noK_f {k : Int32} {n : Nat} (h : noK k n = false) (h0 : 0 < n) (hn : n ≤ 48) : cN k < n ∧ k = nI (cN k) := by
  simp only [noK, inR, Bool.not_eq_false', Bool.and_eq_true, Bool.not_eq_true', decide_eq_false_iff_not] at h
  obtain ⟨h1, h2⟩ := h
  obtain ⟨j, hj, rfl⟩ := nI_of h1
  have h3 : ¬ n - 1 < j := fun q => h2 ((nI_ltI (by omega) hj).mpr q)
  unfold cN
  rw [nI_clamp hj]
  exact ⟨by omega, rfl⟩
def noT (p : Int32) : Bool := !inR p 0 1
theorem noT_f {p : Int32} (h : noT p = false) : cN p < 2 ∧ p = nI (cN p) := by
  have : noK p 2 = false := h
  exact noK_f this (by decide) (by decide)
def dn (r : Nat → Int32) (k : Nat) : Bool := !decide (r (20 + k) < 0)
def sn (r : Nat → Int32) (k : Nat) : Bool := !decide (r (68 + k) < 0)
def mSh (r : Nat → Int32) (k : Int32) : Int32 := if r 5 = k then 0 else if r 6 = k then 1 else -5
def mGap (r : Nat → Int32) (p : Nat) (x : Int32) : Int32 := if r (3 + p) < 0 then -5 else if x < r (3 + p) then r (3 + p) - x else x - r (3 + p)
def mOn (r : Nat → Int32) (p : Nat) : Bool := !decide (r (5 + p) < 0) && (sn r (cN (r (5 + p))) && decide (r (116 + cN (r (5 + p))) = 0))
/-- the shift keys' places: none, or a key -/
def mShs (r : Nat → Int32) : Prop := ∀ p, p < 2 → ¬ r (5 + p) < 0 → cN (r (5 + p)) < 48 ∧ r (5 + p) = nI (cN (r (5 + p)))
def mHeld (r : Nat → Int32) (n : Nat) (p : Int32) : Nat := (List.range n).countP (fun k => decide (r (20 + k) = p))
theorem rng_c (g : Nat → Bool) (n : Nat) : (List.range (n + 1)).countP g = (List.range n).countP g + (if g n = true then 1 else 0) := by
  rw [List.range_succ, List.countP_append]; simp [List.countP_cons]
theorem rng_c_le (g : Nat → Bool) (n : Nat) : (List.range n).countP g ≤ n := by
  have := List.countP_le_length (p := g) (l := List.range n); simpa using this
theorem rng_a (g : Nat → Bool) (n : Nat) : (List.range (n + 1)).any g = ((List.range n).any g || g n) := by
  rw [List.range_succ, List.any_append]; simp
set_option maxHeartbeats 4000000 in
set_option maxRecDepth 100000 in
theorem mr_in (l : Launch) (G : oG) (v : Int32) (lo : Int32) (hi : Int32)   : Met l yX5_in (ws_ yX5_in cX5_in 3 (some .boolean)) ({ frames := 0, cells := 0, slots := 0, locals := 0 }) (oPc G [.int v, .int lo, .int hi] (fun _ => True)) (oR (some (.int (zB (inR v lo hi))))) 0 0 (fun _ => False) := by
  refine Met.ofW (cc := cX5_in) (maxL := 3) (ret := (some .boolean)) (by decide) rfl ?_
  intro p e s m args below meth c s₁ B hml hv
  obtain ⟨rfl, hP, hE⟩ := hv
  have hx := B.exec
  have hb := B.bytes
  have hr := B.returns
  have hts := atoms_spec (ws := ws_ yX5_in cX5_in 3 (some .boolean)) B.pre
  have hts : ∀ w ∈ lw_all, w.before _ s = true := fun w h => hts w (List.mem_cons_of_mem _ h)
  have hown : s.vm.findClass RX5 = some m.cls := findClass_of_methodNamed B.named
  have hlocks := B.notSynchronized
  have hl := lv_entry ([.int v, .int lo, .int hi]) (n := 3) (Nat.le_of_ble_eq_true rfl)
  rw [lg_entry_eq]
  generalize (lg_sl ([.int v, .int lo, .int hi]) ++ List.replicate (3 - (lg_sl ([.int v, .int lo, .int hi])).length) Slot.unset).toArray = ls at hl ⊢
  replace hl : lv_has ls 3 [(0, .int v), (1, .int lo), (2, .int hi)] := hl
  refine lv_iload_n hx hb dX5_in_0 rfl (lv_at hl 0 rfl) ?_
  refine lv_iload_n hx hb dX5_in_1 rfl (lv_at hl 1 rfl) ?_
  refine lv_icmp_lt (tgt := 14) hx hb dX5_in_2 (by decide) (fun c_2 => ?_) (fun c_2 => ?_)
  · refine lv_iconst (v := 0) hx hb dX5_in_14 (by decide) ?_
    exact ol_zretR hx hb hr hlocks rfl (by simp [inR, zB, c_2, Int32.not_le.mpr c_2]) dX5_in_15
  · refine lv_iload_n hx hb dX5_in_5 rfl (lv_at hl 0 rfl) ?_
    refine lv_iload_n hx hb dX5_in_6 rfl (lv_at hl 2 rfl) ?_
    refine lv_icmp_gt (tgt := 14) hx hb dX5_in_7 (by decide) (fun c_7 => ?_) (fun c_7 => ?_)
    · refine lv_iconst (v := 0) hx hb dX5_in_14 (by decide) ?_
      exact ol_zretR hx hb hr hlocks rfl (by simp [inR, zB, c_2, Int32.not_lt.mp c_2, c_7, Int32.not_le.mpr c_7]) dX5_in_15
    · refine lv_iconst (v := 1) hx hb dX5_in_10 (by decide) ?_
      refine lv_goto (tgt := 15) hx hb dX5_in_11 (by decide) ?_
      exact ol_zretR hx hb hr hlocks rfl (by simp [inR, zB, c_2, Int32.not_lt.mp c_2, c_7, Int32.not_lt.mp c_7]) dX5_in_15
set_option maxHeartbeats 4000000 in
set_option maxRecDepth 100000 in
theorem mr_keys (l : Launch) (G : oG) (ad : Nat → Nat) (iS : Int32) (iA : Int32) (iL : Int32) (iT : Int32) (iC : Int32) (iR : Int32) (r : Nat → Int32) (pr : Nat → Int32) (ar : Nat → Int32) (br : Nat → Int32) (f : Nat → UInt32) (pf : Nat → UInt32) (af : Nat → UInt32) (bf : Nat → UInt32) (tx : Nat → Int32)  (Rw Cl : Nat) (hg : mG r Rw Cl) : Met l yX5_keys (ws_ yX5_keys cX5_keys 1 (some .int)) ({ frames := 0, cells := 0, slots := 0, locals := 0 }) (oPc G [.ref (ad 0)] (fun H => va_P G.1 cl0 (mW G ad iS iA iL iT iC iR r pr ar br f pf af bf tx) H)) (oR (some (.int (nI (Rw * Cl))))) 0 0 (fun _ => False) := by
  refine Met.ofW (cc := cX5_keys) (maxL := 1) (ret := (some .int)) (by decide) rfl ?_
  intro p e s m args below meth c s₁ B hml hv
  obtain ⟨rfl, hP, hE⟩ := hv
  have hx := B.exec
  have hb := B.bytes
  have hr := B.returns
  have hts := atoms_spec (ws := ws_ yX5_keys cX5_keys 1 (some .int)) B.pre
  have hts : ∀ w ∈ lw_all, w.before _ s = true := fun w h => hts w (List.mem_cons_of_mem _ h)
  have hown : s.vm.findClass RX5 = some m.cls := findClass_of_methodNamed B.named
  have hlocks := B.notSynchronized
  have hl := lv_entry ([.ref (ad 0)]) (n := 1) (Nat.le_of_ble_eq_true rfl)
  rw [lg_entry_eq]
  generalize (lg_sl ([.ref (ad 0)]) ++ List.replicate (1 - (lg_sl ([.ref (ad 0)])).length) Slot.unset).toArray = ls at hl ⊢
  replace hl : lv_has ls 1 [(0, .ref (ad 0))] := hl
  have hgn := mG_n hg
  have hg' := hg
  obtain ⟨hg0, hg1, hg2, hg3, hg4, hg5⟩ := hg'
  refine lv_aload_n hx hb dX5_keys_0 rfl (lv_at hl 0 rfl) ?_
  refine va_get (D := G.1) (ci := 12) (v := .ref (ad 1)) (C := RX5) (T := TX5) (N := 15) hx hb hts in_X5 hown hE.1 hP 0 rfl rfl 0 (by decide) (hts _ q1135) (fun _ h9 => h9) rfl dX5_keys_1 ?_
  refine lv_iconst (v := 0) hx hb dX5_keys_4 (by decide) ?_
  refine ol_iald hx hb hE.1 hP 1 0 rfl rfl 0 (by decide) (by decide) dX5_keys_5 ?_
  refine ol_top (y := nI Rw) hg0 ?_
  refine lv_aload_n hx hb dX5_keys_6 rfl (lv_at hl 0 rfl) ?_
  refine va_get (D := G.1) (ci := 12) (v := .ref (ad 1)) (C := RX5) (T := TX5) (N := 15) hx hb hts in_X5 hown hE.1 hP 0 rfl rfl 0 (by decide) (hts _ q1135) (fun _ h9 => h9) rfl dX5_keys_7 ?_
  refine lv_iconst (v := 1) hx hb dX5_keys_10 (by decide) ?_
  refine ol_iald hx hb hE.1 hP 1 0 rfl rfl 1 (by decide) (by decide) dX5_keys_11 ?_
  refine ol_top (y := nI Cl) hg1 ?_
  refine ol_imul hx hb Rw Cl dX5_keys_12 ?_
  exact ol_iretR hx hb hr hlocks rfl rfl dX5_keys_13
set_option maxHeartbeats 4000000 in
set_option maxRecDepth 100000 in
theorem mr_noKey (l : Launch) (G : oG) (ad : Nat → Nat) (iS : Int32) (iA : Int32) (iL : Int32) (iT : Int32) (iC : Int32) (iR : Int32) (r : Nat → Int32) (pr : Nat → Int32) (ar : Nat → Int32) (br : Nat → Int32) (f : Nat → UInt32) (pf : Nat → UInt32) (af : Nat → UInt32) (bf : Nat → UInt32) (tx : Nat → Int32) (k : Int32) (Rw Cl : Nat) (hg : mG r Rw Cl) : Met l yX5_noKey (ws_ yX5_noKey cX5_noKey 2 (some .boolean)) ({ frames := 1, cells := 0, slots := 0, locals := 22 }) (oPc G [.ref (ad 0), .int k] (fun H => va_P G.1 cl0 (mW G ad iS iA iL iT iC iR r pr ar br f pf af bf tx) H)) (oR (some (.int (zB (noK k (Rw * Cl)))))) 0 0 (fun _ => False) := by
  refine Met.ofW (cc := cX5_noKey) (maxL := 2) (ret := (some .boolean)) (by decide) rfl ?_
  intro p e s m args below meth c s₁ B hml hv
  obtain ⟨rfl, hP, hE⟩ := hv
  have hx := B.exec
  have hb := B.bytes
  have hr := B.returns
  have hts := atoms_spec (ws := ws_ yX5_noKey cX5_noKey 2 (some .boolean)) B.pre
  have hts : ∀ w ∈ lw_all, w.before _ s = true := fun w h => hts w (List.mem_cons_of_mem _ h)
  have hown : s.vm.findClass RX5 = some m.cls := findClass_of_methodNamed B.named
  have hlocks := B.notSynchronized
  have hl := lv_entry ([.ref (ad 0), .int k]) (n := 2) (Nat.le_of_ble_eq_true rfl)
  rw [lg_entry_eq]
  generalize (lg_sl ([.ref (ad 0), .int k]) ++ List.replicate (2 - (lg_sl ([.ref (ad 0), .int k])).length) Slot.unset).toArray = ls at hl ⊢
  replace hl : lv_has ls 2 [(0, .ref (ad 0)), (1, .int k)] := hl
  have hgn := mG_n hg
  have hg' := hg
  obtain ⟨hg0, hg1, hg2, hg3, hg4, hg5⟩ := hg'
  refine lv_iload_n hx hb dX5_noKey_0 rfl (lv_at hl 1 rfl) ?_
  refine lv_iconst (v := 0) hx hb dX5_noKey_1 (by decide) ?_
  refine lv_aload_n hx hb dX5_noKey_2 rfl (lv_at hl 0 rfl) ?_
  refine ol_cR (st1 := [.int (nI (Rw * Cl)), .int 0, .int k]) (va_runV (As := []) (rest := [.int 0, .int k]) ⟨hx, hb, hml, hown, hts⟩ (mr_keys l G ad iS iA iL iT iC iR r pr ar br f pf af bf tx Rw Cl hg) (cwV 0 hts (lw_V q1213 q1215 qs25 q73 q1216) rfl rfl rfl (by decide +kernel) ⟨Nat.le_of_ble_eq_true rfl, Nat.le_of_ble_eq_true rfl⟩) (oPc.preV hE (hE.recv (ci := 12) (hP 0 _ rfl) rfl) hP) rfl rfl hl.1 rfl (lv_room (Nat.le_of_ble_eq_true rfl)) dX5_noKey_3 ⟨Nat.le_of_ble_eq_true rfl, Nat.le_of_ble_eq_true rfl⟩) rfl ?_
  refine lv_iconst (v := 1) hx hb dX5_noKey_6 (by decide) ?_
  refine ol_isub hx hb (Rw * Cl) 1 (by omega) dX5_noKey_7 ?_
  refine ol_cR (st1 := [.int (zB (inR k 0 (nI (Rw * Cl - 1))))]) (va_runS (As := [.int k, .int 0, .int (nI (Rw * Cl - 1))]) (rest := []) ⟨hx, hb, hml, hown, hts⟩ (mr_in l G k 0 (nI (Rw * Cl - 1)) ) (va_cwS 3 hts (lw_S q1210 q1211 q73 q1212) rfl rfl rfl (by decide +kernel) ⟨Nat.le_of_ble_eq_true rfl, Nat.le_of_ble_eq_true rfl⟩) (oPc.preS hE trivial) rfl rfl hl.1 rfl (lv_room (Nat.le_of_ble_eq_true rfl)) dX5_noKey_8 ⟨Nat.le_of_ble_eq_true rfl, Nat.le_of_ble_eq_true rfl⟩) rfl ?_
  refine ol_if_neB hx hb (inR k 0 (nI (Rw * Cl - 1))) (tgt := 18) dX5_noKey_11 (by decide) (fun c_11 => ?_) (fun c_11 => ?_)
  · refine lv_iconst (v := 0) hx hb dX5_noKey_18 (by decide) ?_
    exact ol_zretR hx hb hr hlocks rfl (by simp [noK, zB, c_11]) dX5_noKey_19
  · refine lv_iconst (v := 1) hx hb dX5_noKey_14 (by decide) ?_
    refine lv_goto (tgt := 19) hx hb dX5_noKey_15 (by decide) ?_
    exact ol_zretR hx hb hr hlocks rfl (by simp [noK, zB, c_11]) dX5_noKey_19
set_option maxHeartbeats 4000000 in
set_option maxRecDepth 100000 in
theorem mr_noTypist (l : Launch) (G : oG) (ad : Nat → Nat) (iS : Int32) (iA : Int32) (iL : Int32) (iT : Int32) (iC : Int32) (iR : Int32) (r : Nat → Int32) (pr : Nat → Int32) (ar : Nat → Int32) (br : Nat → Int32) (f : Nat → UInt32) (pf : Nat → UInt32) (af : Nat → UInt32) (bf : Nat → UInt32) (tx : Nat → Int32) (q : Int32)   : Met l yX5_noTypist (ws_ yX5_noTypist cX5_noTypist 2 (some .boolean)) ({ frames := 1, cells := 0, slots := 0, locals := 22 }) (oPc G [.ref (ad 0), .int q] (fun H => va_P G.1 cl0 (mW G ad iS iA iL iT iC iR r pr ar br f pf af bf tx) H)) (oR (some (.int (zB (noT q))))) 0 0 (fun _ => False) := by
  refine Met.ofW (cc := cX5_noTypist) (maxL := 2) (ret := (some .boolean)) (by decide) rfl ?_
  intro p e s m args below meth c s₁ B hml hv
  obtain ⟨rfl, hP, hE⟩ := hv
  have hx := B.exec
  have hb := B.bytes
  have hr := B.returns
  have hts := atoms_spec (ws := ws_ yX5_noTypist cX5_noTypist 2 (some .boolean)) B.pre
  have hts : ∀ w ∈ lw_all, w.before _ s = true := fun w h => hts w (List.mem_cons_of_mem _ h)
  have hown : s.vm.findClass RX5 = some m.cls := findClass_of_methodNamed B.named
  have hlocks := B.notSynchronized
  have hl := lv_entry ([.ref (ad 0), .int q]) (n := 2) (Nat.le_of_ble_eq_true rfl)
  rw [lg_entry_eq]
  generalize (lg_sl ([.ref (ad 0), .int q]) ++ List.replicate (2 - (lg_sl ([.ref (ad 0), .int q])).length) Slot.unset).toArray = ls at hl ⊢
  replace hl : lv_has ls 2 [(0, .ref (ad 0)), (1, .int q)] := hl
  refine lv_iload_n hx hb dX5_noTypist_0 rfl (lv_at hl 1 rfl) ?_
  refine lv_iconst (v := 0) hx hb dX5_noTypist_1 (by decide) ?_
  refine lv_iconst (v := 1) hx hb dX5_noTypist_2 (by decide) ?_
  refine ol_cR (st1 := [.int (zB (inR q 0 1))]) (va_runS (As := [.int q, .int 0, .int 1]) (rest := []) ⟨hx, hb, hml, hown, hts⟩ (mr_in l G q 0 1 ) (va_cwS 3 hts (lw_S q1210 q1211 q73 q1212) rfl rfl rfl (by decide +kernel) ⟨Nat.le_of_ble_eq_true rfl, Nat.le_of_ble_eq_true rfl⟩) (oPc.preS hE trivial) rfl rfl hl.1 rfl (lv_room (Nat.le_of_ble_eq_true rfl)) dX5_noTypist_3 ⟨Nat.le_of_ble_eq_true rfl, Nat.le_of_ble_eq_true rfl⟩) rfl ?_
  refine ol_if_neB hx hb (inR q 0 1) (tgt := 13) dX5_noTypist_6 (by decide) (fun c_6 => ?_) (fun c_6 => ?_)
  · refine lv_iconst (v := 0) hx hb dX5_noTypist_13 (by decide) ?_
    exact ol_zretR hx hb hr hlocks rfl (by simp [noT, zB, c_6]) dX5_noTypist_14
  · refine lv_iconst (v := 1) hx hb dX5_noTypist_9 (by decide) ?_
    refine lv_goto (tgt := 14) hx hb dX5_noTypist_10 (by decide) ?_
    exact ol_zretR hx hb hr hlocks rfl (by simp [noT, zB, c_6]) dX5_noTypist_14
set_option maxHeartbeats 4000000 in
set_option maxRecDepth 100000 in
theorem mr_isDown (l : Launch) (G : oG) (ad : Nat → Nat) (iS : Int32) (iA : Int32) (iL : Int32) (iT : Int32) (iC : Int32) (iR : Int32) (r : Nat → Int32) (pr : Nat → Int32) (ar : Nat → Int32) (br : Nat → Int32) (f : Nat → UInt32) (pf : Nat → UInt32) (af : Nat → UInt32) (bf : Nat → UInt32) (tx : Nat → Int32) (k : Nat)  (hk : k < 48) : Met l yX5_isDown (ws_ yX5_isDown cX5_isDown 2 (some .boolean)) ({ frames := 0, cells := 0, slots := 0, locals := 0 }) (oPc G [.ref (ad 0), .int (nI k)] (fun H => va_P G.1 cl0 (mW G ad iS iA iL iT iC iR r pr ar br f pf af bf tx) H)) (oR (some (.int (zB (dn r k))))) 0 0 (fun _ => False) := by
  refine Met.ofW (cc := cX5_isDown) (maxL := 2) (ret := (some .boolean)) (by decide) rfl ?_
  intro p e s m args below meth c s₁ B hml hv
  obtain ⟨rfl, hP, hE⟩ := hv
  have hx := B.exec
  have hb := B.bytes
  have hr := B.returns
  have hts := atoms_spec (ws := ws_ yX5_isDown cX5_isDown 2 (some .boolean)) B.pre
  have hts : ∀ w ∈ lw_all, w.before _ s = true := fun w h => hts w (List.mem_cons_of_mem _ h)
  have hown : s.vm.findClass RX5 = some m.cls := findClass_of_methodNamed B.named
  have hlocks := B.notSynchronized
  have hl := lv_entry ([.ref (ad 0), .int (nI k)]) (n := 2) (Nat.le_of_ble_eq_true rfl)
  rw [lg_entry_eq]
  generalize (lg_sl ([.ref (ad 0), .int (nI k)]) ++ List.replicate (2 - (lg_sl ([.ref (ad 0), .int (nI k)])).length) Slot.unset).toArray = ls at hl ⊢
  replace hl : lv_has ls 2 [(0, .ref (ad 0)), (1, .int (nI k))] := hl
  refine lv_aload_n hx hb dX5_isDown_0 rfl (lv_at hl 0 rfl) ?_
  refine va_get (D := G.1) (ci := 12) (v := .ref (ad 1)) (C := RX5) (T := TX5) (N := 15) hx hb hts in_X5 hown hE.1 hP 0 rfl rfl 0 (by decide) (hts _ q1135) (fun _ h9 => h9) rfl dX5_isDown_1 ?_
  refine lv_bipush (v := 20) hx hb dX5_isDown_4 (by decide) ?_
  refine lv_iload_n hx hb dX5_isDown_6 rfl (lv_at hl 1 rfl) ?_
  refine ol_iadd hx hb 20 k dX5_isDown_7 ?_
  refine ol_iald hx hb hE.1 hP 1 0 rfl rfl (20 + k) (by omega) (by decide) dX5_isDown_8 ?_
  refine lv_if_lt (tgt := 16) hx hb dX5_isDown_9 (by decide) (fun c_9 => ?_) (fun c_9 => ?_)
  · refine lv_iconst (v := 0) hx hb dX5_isDown_16 (by decide) ?_
    exact ol_zretR hx hb hr hlocks rfl (by simp [dn, zB, c_9, Int32.not_le.mpr c_9]) dX5_isDown_17
  · refine lv_iconst (v := 1) hx hb dX5_isDown_12 (by decide) ?_
    refine lv_goto (tgt := 17) hx hb dX5_isDown_13 (by decide) ?_
    exact ol_zretR hx hb hr hlocks rfl (by simp [dn, zB, c_9, Int32.not_lt.mp c_9]) dX5_isDown_17
set_option maxHeartbeats 4000000 in
set_option maxRecDepth 100000 in
theorem mr_isSeen (l : Launch) (G : oG) (ad : Nat → Nat) (iS : Int32) (iA : Int32) (iL : Int32) (iT : Int32) (iC : Int32) (iR : Int32) (r : Nat → Int32) (pr : Nat → Int32) (ar : Nat → Int32) (br : Nat → Int32) (f : Nat → UInt32) (pf : Nat → UInt32) (af : Nat → UInt32) (bf : Nat → UInt32) (tx : Nat → Int32) (k : Nat)  (hk : k < 48) : Met l yX5_isSeen (ws_ yX5_isSeen cX5_isSeen 2 (some .boolean)) ({ frames := 0, cells := 0, slots := 0, locals := 0 }) (oPc G [.ref (ad 0), .int (nI k)] (fun H => va_P G.1 cl0 (mW G ad iS iA iL iT iC iR r pr ar br f pf af bf tx) H)) (oR (some (.int (zB (sn r k))))) 0 0 (fun _ => False) := by
  refine Met.ofW (cc := cX5_isSeen) (maxL := 2) (ret := (some .boolean)) (by decide) rfl ?_
  intro p e s m args below meth c s₁ B hml hv
  obtain ⟨rfl, hP, hE⟩ := hv
  have hx := B.exec
  have hb := B.bytes
  have hr := B.returns
  have hts := atoms_spec (ws := ws_ yX5_isSeen cX5_isSeen 2 (some .boolean)) B.pre
  have hts : ∀ w ∈ lw_all, w.before _ s = true := fun w h => hts w (List.mem_cons_of_mem _ h)
  have hown : s.vm.findClass RX5 = some m.cls := findClass_of_methodNamed B.named
  have hlocks := B.notSynchronized
  have hl := lv_entry ([.ref (ad 0), .int (nI k)]) (n := 2) (Nat.le_of_ble_eq_true rfl)
  rw [lg_entry_eq]
  generalize (lg_sl ([.ref (ad 0), .int (nI k)]) ++ List.replicate (2 - (lg_sl ([.ref (ad 0), .int (nI k)])).length) Slot.unset).toArray = ls at hl ⊢
  replace hl : lv_has ls 2 [(0, .ref (ad 0)), (1, .int (nI k))] := hl
  refine lv_aload_n hx hb dX5_isSeen_0 rfl (lv_at hl 0 rfl) ?_
  refine va_get (D := G.1) (ci := 12) (v := .ref (ad 1)) (C := RX5) (T := TX5) (N := 15) hx hb hts in_X5 hown hE.1 hP 0 rfl rfl 0 (by decide) (hts _ q1135) (fun _ h9 => h9) rfl dX5_isSeen_1 ?_
  refine lv_bipush (v := 68) hx hb dX5_isSeen_4 (by decide) ?_
  refine lv_iload_n hx hb dX5_isSeen_6 rfl (lv_at hl 1 rfl) ?_
  refine ol_iadd hx hb 68 k dX5_isSeen_7 ?_
  refine ol_iald hx hb hE.1 hP 1 0 rfl rfl (68 + k) (by omega) (by decide) dX5_isSeen_8 ?_
  refine lv_if_lt (tgt := 16) hx hb dX5_isSeen_9 (by decide) (fun c_9 => ?_) (fun c_9 => ?_)
  · refine lv_iconst (v := 0) hx hb dX5_isSeen_16 (by decide) ?_
    exact ol_zretR hx hb hr hlocks rfl (by simp [sn, zB, c_9, Int32.not_le.mpr c_9]) dX5_isSeen_17
  · refine lv_iconst (v := 1) hx hb dX5_isSeen_12 (by decide) ?_
    refine lv_goto (tgt := 17) hx hb dX5_isSeen_13 (by decide) ?_
    exact ol_zretR hx hb hr hlocks rfl (by simp [sn, zB, c_9, Int32.not_lt.mp c_9]) dX5_isSeen_17
set_option maxHeartbeats 4000000 in
set_option maxRecDepth 100000 in
theorem mr_shiftOf (l : Launch) (G : oG) (ad : Nat → Nat) (iS : Int32) (iA : Int32) (iL : Int32) (iT : Int32) (iC : Int32) (iR : Int32) (r : Nat → Int32) (pr : Nat → Int32) (ar : Nat → Int32) (br : Nat → Int32) (f : Nat → UInt32) (pf : Nat → UInt32) (af : Nat → UInt32) (bf : Nat → UInt32) (tx : Nat → Int32) (k : Int32)   : Met l yX5_shiftOf (ws_ yX5_shiftOf cX5_shiftOf 2 (some .int)) ({ frames := 0, cells := 0, slots := 0, locals := 0 }) (oPc G [.ref (ad 0), .int k] (fun H => va_P G.1 cl0 (mW G ad iS iA iL iT iC iR r pr ar br f pf af bf tx) H)) (oR (some (.int (mSh r k)))) 0 0 (fun _ => False) := by
  refine Met.ofW (cc := cX5_shiftOf) (maxL := 2) (ret := (some .int)) (by decide) rfl ?_
  intro p e s m args below meth c s₁ B hml hv
  obtain ⟨rfl, hP, hE⟩ := hv
  have hx := B.exec
  have hb := B.bytes
  have hr := B.returns
  have hts := atoms_spec (ws := ws_ yX5_shiftOf cX5_shiftOf 2 (some .int)) B.pre
  have hts : ∀ w ∈ lw_all, w.before _ s = true := fun w h => hts w (List.mem_cons_of_mem _ h)
  have hown : s.vm.findClass RX5 = some m.cls := findClass_of_methodNamed B.named
  have hlocks := B.notSynchronized
  have hl := lv_entry ([.ref (ad 0), .int k]) (n := 2) (Nat.le_of_ble_eq_true rfl)
  rw [lg_entry_eq]
  generalize (lg_sl ([.ref (ad 0), .int k]) ++ List.replicate (2 - (lg_sl ([.ref (ad 0), .int k])).length) Slot.unset).toArray = ls at hl ⊢
  replace hl : lv_has ls 2 [(0, .ref (ad 0)), (1, .int k)] := hl
  refine lv_aload_n hx hb dX5_shiftOf_0 rfl (lv_at hl 0 rfl) ?_
  refine va_get (D := G.1) (ci := 12) (v := .ref (ad 1)) (C := RX5) (T := TX5) (N := 15) hx hb hts in_X5 hown hE.1 hP 0 rfl rfl 0 (by decide) (hts _ q1135) (fun _ h9 => h9) rfl dX5_shiftOf_1 ?_
  refine lv_iconst (v := 5) hx hb dX5_shiftOf_4 (by decide) ?_
  refine ol_iald hx hb hE.1 hP 1 0 rfl rfl 5 (by decide) (by decide) dX5_shiftOf_5 ?_
  refine lv_iload_n hx hb dX5_shiftOf_6 rfl (lv_at hl 1 rfl) ?_
  refine lv_icmp_ne (tgt := 14) hx hb dX5_shiftOf_7 (by decide) (fun c_7 => ?_) (fun c_7 => ?_)
  · refine lv_aload_n hx hb dX5_shiftOf_14 rfl (lv_at hl 0 rfl) ?_
    refine va_get (D := G.1) (ci := 12) (v := .ref (ad 1)) (C := RX5) (T := TX5) (N := 15) hx hb hts in_X5 hown hE.1 hP 0 rfl rfl 0 (by decide) (hts _ q1135) (fun _ h9 => h9) rfl dX5_shiftOf_15 ?_
    refine lv_bipush (v := 6) hx hb dX5_shiftOf_18 (by decide) ?_
    refine ol_iald hx hb hE.1 hP 1 0 rfl rfl 6 (by decide) (by decide) dX5_shiftOf_20 ?_
    refine lv_iload_n hx hb dX5_shiftOf_21 rfl (lv_at hl 1 rfl) ?_
    refine lv_icmp_ne (tgt := 29) hx hb dX5_shiftOf_22 (by decide) (fun c_22 => ?_) (fun c_22 => ?_)
    · refine lv_bipush (v := (-5)) hx hb dX5_shiftOf_29 (by decide) ?_
      exact ol_iretR hx hb hr hlocks rfl (by simp [mSh, zB, c_7, c_22]) dX5_shiftOf_31
    · refine lv_iconst (v := 1) hx hb dX5_shiftOf_25 (by decide) ?_
      refine lv_goto (tgt := 31) hx hb dX5_shiftOf_26 (by decide) ?_
      exact ol_iretR hx hb hr hlocks rfl (by simp [mSh, zB, c_7, c_22]) dX5_shiftOf_31
  · refine lv_iconst (v := 0) hx hb dX5_shiftOf_10 (by decide) ?_
    refine lv_goto (tgt := 31) hx hb dX5_shiftOf_11 (by decide) ?_
    exact ol_iretR hx hb hr hlocks rfl (by simp [mSh, zB, c_7]) dX5_shiftOf_31
set_option maxHeartbeats 4000000 in
set_option maxRecDepth 100000 in
theorem mr_gap (l : Launch) (G : oG) (ad : Nat → Nat) (iS : Int32) (iA : Int32) (iL : Int32) (iT : Int32) (iC : Int32) (iR : Int32) (r : Nat → Int32) (pr : Nat → Int32) (ar : Nat → Int32) (br : Nat → Int32) (f : Nat → UInt32) (pf : Nat → UInt32) (af : Nat → UInt32) (bf : Nat → UInt32) (tx : Nat → Int32) (q : Nat) (x : Int32)  (hq : q < 2) : Met l yX5_gap (ws_ yX5_gap cX5_gap 4 (some .int)) ({ frames := 0, cells := 0, slots := 0, locals := 0 }) (oPc G [.ref (ad 0), .int (nI q), .int x] (fun H => va_P G.1 cl0 (mW G ad iS iA iL iT iC iR r pr ar br f pf af bf tx) H)) (oR (some (.int (mGap r q x)))) 0 0 (fun _ => False) := by
  refine Met.ofW (cc := cX5_gap) (maxL := 4) (ret := (some .int)) (by decide) rfl ?_
  intro p e s m args below meth c s₁ B hml hv
  obtain ⟨rfl, hP, hE⟩ := hv
  have hx := B.exec
  have hb := B.bytes
  have hr := B.returns
  have hts := atoms_spec (ws := ws_ yX5_gap cX5_gap 4 (some .int)) B.pre
  have hts : ∀ w ∈ lw_all, w.before _ s = true := fun w h => hts w (List.mem_cons_of_mem _ h)
  have hown : s.vm.findClass RX5 = some m.cls := findClass_of_methodNamed B.named
  have hlocks := B.notSynchronized
  have hl := lv_entry ([.ref (ad 0), .int (nI q), .int x]) (n := 4) (Nat.le_of_ble_eq_true rfl)
  rw [lg_entry_eq]
  generalize (lg_sl ([.ref (ad 0), .int (nI q), .int x]) ++ List.replicate (4 - (lg_sl ([.ref (ad 0), .int (nI q), .int x])).length) Slot.unset).toArray = ls at hl ⊢
  replace hl : lv_has ls 4 [(0, .ref (ad 0)), (1, .int (nI q)), (2, .int x)] := hl
  refine lv_aload_n hx hb dX5_gap_0 rfl (lv_at hl 0 rfl) ?_
  refine va_get (D := G.1) (ci := 12) (v := .ref (ad 1)) (C := RX5) (T := TX5) (N := 15) hx hb hts in_X5 hown hE.1 hP 0 rfl rfl 0 (by decide) (hts _ q1135) (fun _ h9 => h9) rfl dX5_gap_1 ?_
  refine lv_iconst (v := 3) hx hb dX5_gap_4 (by decide) ?_
  refine lv_iload_n hx hb dX5_gap_5 rfl (lv_at hl 1 rfl) ?_
  refine ol_iadd hx hb 3 q dX5_gap_6 ?_
  refine ol_iald hx hb hE.1 hP 1 0 rfl rfl (3 + q) (by omega) (by decide) dX5_gap_7 ?_
  refine lv_istore_n (lv' := [(3, .int (r (3 + q))), (0, .ref (ad 0)), (1, .int (nI q)), (2, .int x)]) hx hb dX5_gap_8 rfl hl (by decide) rfl (fun ls hl => ?_)
  refine lv_iload_n hx hb dX5_gap_9 rfl (lv_at hl 0 rfl) ?_
  refine lv_if_ge (tgt := 18) hx hb dX5_gap_10 (by decide) (fun c_10 => ?_) (fun c_10 => ?_)
  · refine lv_iload_n hx hb dX5_gap_18 rfl (lv_at hl 3 rfl) ?_
    refine lv_iload_n hx hb dX5_gap_19 rfl (lv_at hl 0 rfl) ?_
    refine lv_icmp_ge (tgt := 29) hx hb dX5_gap_20 (by decide) (fun c_20 => ?_) (fun c_20 => ?_)
    · refine lv_iload_n hx hb dX5_gap_29 rfl (lv_at hl 3 rfl) ?_
      refine lv_iload_n hx hb dX5_gap_30 rfl (lv_at hl 0 rfl) ?_
      refine lv_isub hx hb dX5_gap_31 ?_
      exact ol_iretR hx hb hr hlocks rfl (by simp [mGap, zB, c_10, Int32.not_lt.mpr c_10, c_20, Int32.not_lt.mpr c_20]) dX5_gap_32
    · refine lv_iload_n hx hb dX5_gap_23 rfl (lv_at hl 0 rfl) ?_
      refine lv_iload_n hx hb dX5_gap_24 rfl (lv_at hl 3 rfl) ?_
      refine lv_isub hx hb dX5_gap_25 ?_
      refine lv_goto (tgt := 32) hx hb dX5_gap_26 (by decide) ?_
      exact ol_iretR hx hb hr hlocks rfl (by simp [mGap, zB, c_10, Int32.not_lt.mpr c_10, c_20, Int32.not_le.mp c_20]) dX5_gap_32
  · refine lv_bipush (v := (-5)) hx hb dX5_gap_13 (by decide) ?_
    refine lv_goto (tgt := 32) hx hb dX5_gap_15 (by decide) ?_
    exact ol_iretR hx hb hr hlocks rfl (by simp [mGap, zB, c_10, Int32.not_le.mp c_10]) dX5_gap_32
