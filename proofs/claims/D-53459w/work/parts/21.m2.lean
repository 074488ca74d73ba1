/-! THE REFERENCE: reading methods with loops, floats, switches -/
def mCcI (r : Nat → Int32) (Cl k o n : Nat) : Bool := (List.range n).any (fun d => !decide (o = k / Cl) && (!decide (d = k % Cl) && (sn r (Cl * (k / Cl) + d) && (sn r (Cl * o + k % Cl) && sn r (Cl * o + d)))))
def mCcO (r : Nat → Int32) (Cl k n : Nat) : Bool := (List.range n).any (fun o => mCcI r Cl k o Cl)
theorem mCcI_s (r : Nat → Int32) (Cl k o n : Nat) : mCcI r Cl k o (n + 1) = (mCcI r Cl k o n || (!decide (o = k / Cl) && (!decide (n = k % Cl) && (sn r (Cl * (k / Cl) + n) && (sn r (Cl * o + k % Cl) && sn r (Cl * o + n)))))) := rng_a _ _
theorem mCcO_s (r : Nat → Int32) (Cl k n : Nat) : mCcO r Cl k (n + 1) = (mCcO r Cl k n || mCcI r Cl k n Cl) := rng_a _ _
theorem mCcI_same (r : Nat → Int32) (Cl k n : Nat) {o : Nat} (h : o = k / Cl) : mCcI r Cl k o n = false := by
  unfold mCcI; simp [h]
theorem mCcI_0 (r : Nat → Int32) (Cl k o : Nat) : mCcI r Cl k o 0 = false := rfl
def mCorner (r : Nat → Int32) (Rw Cl k : Nat) : Bool := mCcO r Cl k Rw
def mOpen (r : Nat → Int32) (n : Nat) : Nat := (List.range n).countP (fun d => decide (r (404 + 7 * d + 3) < 0))
def mThat (r : Nat → Int32) (what : Int32) (k : Nat) : Bool := if what = 3 then dn r k else if what = 4 then sn r k else (sn r k && decide (r (116 + k) = 1))
def mFo (f : Nat → UInt32) : Prop := ∀ q, q < 2 → fOK (f (0 + q)) ∧ fOK (f (2 + q))
def mOff (r : Nat → Int32) (f : Nat → UInt32) (q : Nat) (x v : Int32) : UInt32 := offF (f (0 + q)) (f (2 + q)) (mGap r q x) v
def mJd (r : Nat → Int32) (f : Nat → UInt32) (k : Nat) : Int32 := if mSh r (nI k) < 0 then (
    if r (116 + k) = 1 then (if flt (mOff r f 1 (r (68 + k)) (r 2 - r (68 + k))) (mOff r f 0 (r (68 + k)) (r 2 - r (68 + k))) = true then (if fle (mOff r f 1 (r (68 + k)) (r 2 - r (68 + k))) (f 5) = true then 1 else 2) else (if fle (mOff r f 0 (r (68 + k)) (r 2 - r (68 + k))) (f 5) = true then 0 else 2))
    else if flt (fsz (FP.fsub (mOff r f 0 (r (68 + k)) (r 2 - r (68 + k))) (mOff r f 1 (r (68 + k)) (r 2 - r (68 + k))))) (f 4) = true then (if r 16 = 20 then 2 else 3)
    else if flt (mOff r f 1 (r (68 + k)) (r 2 - r (68 + k))) (mOff r f 0 (r (68 + k)) (r 2 - r (68 + k))) = true then 1 else 0)
  else if r (116 + k) = 1 then 2 else mSh r (nI k)
def mAP (r : Nat → Int32) (n : Nat) (q k : Int32) : Int32 := if noT q = true then -1 else if noK k n = true then -1 else if dn r (cN k) = true then -4 else if mHeld r n q = 5 then -3 else 0
def mAR (r : Nat → Int32) (n : Nat) (q k : Int32) : Int32 := if noT q = true then -1 else if noK k n = true then -1 else if r (20 + cN k) = q then 0 else -4
theorem nn_of {x : Int32} (h : ¬ x < 0) : x = nI (cN x) ∧ cN x < 2 ^ 31 := by
  obtain ⟨j, hj, rfl⟩ := nI_of h
  unfold cN
  rw [nI_clamp hj]
  exact ⟨rfl, hj⟩
theorem inR_n {x : Int32} {n : Nat} (h0 : 0 < n ∧ n < 2 ^ 31) (h : inR x 0 (nI (n - 1)) = true) : cN x < n ∧ x = nI (cN x) := by
  simp only [inR, Bool.and_eq_true, Bool.not_eq_true', decide_eq_false_iff_not] at h
  obtain ⟨h1, h2⟩ := h
  obtain ⟨e, hj⟩ := nn_of h1
  rw [e, nI_ltI (by omega) hj] at h2
  exact ⟨by omega, e⟩
theorem sw_out {x : Int32} {n : Nat} (hn : n < 2 ^ 31) (h : ∀ k, k < n → ¬ x = nI k) : x.toInt < 0 ∨ (n : Int) - 1 < x.toInt := by
  by_cases h0 : x < 0
  · left; simpa [Int32.lt_iff_toInt_lt] using h0
  · right
    obtain ⟨e, hj⟩ := nn_of h0
    have h2 : ¬ cN x < n := fun q => h _ q e
    rw [e, nI_toInt hj]; omega
theorem noD_f {q : Int32} {z : Int32} (hz : ¬ z < 0) (h : (!inR q 0 (z - 1)) = false) : cN q < cN z ∧ q = nI (cN q) := by
  simp only [inR, Bool.not_eq_false', Bool.and_eq_true, Bool.not_eq_true', decide_eq_false_iff_not] at h
  obtain ⟨h1, h2⟩ := h
  obtain ⟨e, hj⟩ := nn_of h1
  obtain ⟨ez, hzj⟩ := nn_of hz
  refine ⟨?_, e⟩
  rcases Nat.eq_zero_or_pos (cN z) with z0 | zp
  · exfalso
    rw [z0] at ez
    apply h2
    rw [ez, e, Int32.lt_iff_toInt_lt, nI_toInt hj]
    have : (nI 0 - 1).toInt = -1 := by decide
    omega
  · rw [ez, show (1 : Int32) = nI 1 from rfl, pk_sub zp, e, nI_ltI (by omega) hj] at h2
    omega
def mSees (tx : Nat → Int32) (t ln : Nat) (lo hi : Int32) : Bool := decide (t < ln) && inR (tx t) lo hi
def mTypist (r : Nat → Int32) (n : Nat) (q x : Int32) : Int32 := if noT q = true then -1 else if x = 0 then nI (mHeld r n q) else if x = 1 then r (5 + cN q) else if x = 2 then zB (mOn r (cN q)) else if x = 3 then r (7 + cN q) else if x = 4 then r (10 + cN q) else if x = 5 then r (12 + cN q) else if x = 6 then r (17 + cN q) else if x = 7 then r (3 + cN q) else -2
def mStyle (f : Nat → UInt32) (q x : Int32) : UInt32 := if noT q = true then 2143289344 else if inR x 0 1 = true then f (2 * cN x + cN q) else 2143289344
def mHund (f : Nat → UInt32) (q x : Int32) : Int32 := if noT q = true then -1 else if inR x 0 1 = true then FP.f2i (FP.fmul (f (2 * cN x + cN q)) 1120403456) else -2
theorem mFo_at {f : Nat → UInt32} (h : mFo f) {x q : Nat} (hx : x < 2) (hq : q < 2) : fOK (f (2 * x + q)) := by
  rcases (show x = 0 ∨ x = 1 by omega) with rfl | rfl
  · exact (h q hq).1
  · exact (h q hq).2
def mTy (r : Nat → Int32) : Prop := ∀ p, p < 2 → ¬ r (17 + p) < 0
def mTyped (r : Nat → Int32) (q b : Int32) : Int32 := if noT q = true then -1 else if b < 0 then -2 else if cN b < cN (r (17 + cN q)) ∧ cN b < 24 then r (544 + 24 * cN q + (cN (r (17 + cN q)) - 1 - cN b) % 24) else -5
def mStroke (r : Nat → Int32) (b x : Int32) : Int32 := if b < 0 then -2 else if inR x 0 5 = true then (if cN b < cN (r 9) ∧ cN b < 16 then r (308 + 6 * ((cN (r 9) - 1 - cN b) % 16) + cN x) else -5) else -2
def mDisp (r : Nat → Int32) (q x : Int32) : Int32 := if (!inR q 0 (r 16 - 1)) = true then -1 else if inR x 0 4 = true then r (404 + 7 * cN q + cN x) else -2
def mDist (r : Nat → Int32) (f : Nat → UInt32) (q x v : Int32) : UInt32 := if noT q = true then 2143289344 else if x < 0 then 2143289344 else if inR v 0 9999 = true then mOff r f (cN q) x v else 2143289344
def mVerd (r : Nat → Int32) (f : Nat → UInt32) (n : Nat) (k : Int32) : Int32 := if noK k n = true then -1 else if sn r (cN k) = true then mJd r f (cN k) else -5
def mThats (r : Nat → Int32) (what : Int32) (n : Nat) : Nat := (List.range n).countP (fun k => mThat r what k)
def mCount (r : Nat → Int32) (iS iL : Int32) (Rw Cl : Nat) (q : Int32) : Int32 := if q = 0 then r 2 else if q = 1 then r 0 else if q = 2 then r 1 else if q = 3 ∨ q = 4 ∨ q = 5 then nI (mThats r q (Rw * Cl)) else if q = 6 then r 9 else if q = 7 then r 10 + r 11 else if q = 8 then r 14 else if q = 9 then nI (mOpen r (cN (r 16))) else if q = 10 then r 16 else if q = 11 then r 12 + r 13 else if q = 12 then r 15 else if q = 13 then nI (cN (r 2) % Rw) else if q = 14 then iS else if q = 15 then iL else -2
set_option maxHeartbeats 4000000 in
set_option maxRecDepth 100000 in
theorem mr_held (l : Launch) (G : oG) (ad : Nat → Nat) (iS : Int32) (iA : Int32) (iL : Int32) (iT : Int32) (iC : Int32) (iR : Int32) (r : Nat → Int32) (pr : Nat → Int32) (ar : Nat → Int32) (br : Nat → Int32) (f : Nat → UInt32) (pf : Nat → UInt32) (af : Nat → UInt32) (bf : Nat → UInt32) (tx : Nat → Int32) (q : Int32) (Rw Cl : Nat) (hg : mG r Rw Cl) : Met l yX5_held (ws_ yX5_held cX5_held 4 (some .int)) ({ frames := 1, cells := 0, slots := 0, locals := 20 }) (oPc G [.ref (ad 0), .int q] (fun H => va_P G.1 cl0 (mW G ad iS iA iL iT iC iR r pr ar br f pf af bf tx) H)) (oR (some (.int (nI (mHeld r (Rw * Cl) q))))) 0 0 (fun _ => False) := by
  refine Met.ofW (cc := cX5_held) (maxL := 4) (ret := (some .int)) (by decide) rfl ?_
  intro p e s m args below meth c s₁ B hml hv
  obtain ⟨rfl, hP, hE⟩ := hv
  have hx := B.exec
  have hb := B.bytes
  have hr := B.returns
  have hts := atoms_spec (ws := ws_ yX5_held cX5_held 4 (some .int)) B.pre
  have hts : ∀ w ∈ lw_all, w.before _ s = true := fun w h => hts w (List.mem_cons_of_mem _ h)
  have hown : s.vm.findClass RX5 = some m.cls := findClass_of_methodNamed B.named
  have hlocks := B.notSynchronized
  have hl := lv_entry ([.ref (ad 0), .int q]) (n := 4) (Nat.le_of_ble_eq_true rfl)
  rw [lg_entry_eq]
  generalize (lg_sl ([.ref (ad 0), .int q]) ++ List.replicate (4 - (lg_sl ([.ref (ad 0), .int q])).length) Slot.unset).toArray = ls at hl ⊢
  replace hl : lv_has ls 4 [(0, .ref (ad 0)), (1, .int q)] := hl
  have hgn := mG_n hg
  have hg' := hg
  obtain ⟨hg0, hg1, hg2, hg3, hg4, hg5⟩ := hg'
  refine lv_iconst (v := 0) hx hb dX5_held_0 (by decide) ?_
  refine lv_istore_n (lv' := [(2, .int 0), (0, .ref (ad 0)), (1, .int q)]) hx hb dX5_held_1 rfl hl (by decide) rfl (fun ls hl => ?_)
  refine lv_iconst (v := 0) hx hb dX5_held_2 (by decide) ?_
  refine lv_istore_n (lv' := [(3, .int 0), (2, .int 0), (0, .ref (ad 0)), (1, .int q)]) hx hb dX5_held_3 rfl hl (by decide) rfl (fun ls hl => ?_)
  obtain ⟨i1, hi1, hl1⟩ : ∃ i1 : Nat, i1 ≤ Rw * Cl ∧ lv_has ls 4 [(3, .int (nI i1)), (2, .int (nI (mHeld r i1 q))), (0, .ref (ad 0)), (1, .int q)] := ⟨0, by omega, lv_sub hl [0, 1, 2, 3] rfl⟩
  clear hl; have hl := hl1; clear hl1
  obtain ⟨d1, hd1⟩ : ∃ d1 : Nat, Rw * Cl < i1 + d1 := ⟨Rw * Cl + 1, by omega⟩
  induction d1 generalizing i1 ls with
  | zero => exact absurd hd1 (by omega)
  | succ d1 ih1 =>
    refine lv_iload_n hx hb dX5_held_4 rfl (lv_at hl 0 rfl) ?_
    refine lv_aload_n hx hb dX5_held_5 rfl (lv_at hl 2 rfl) ?_
    refine ol_cR (st1 := [.int (nI (Rw * Cl)), .int (nI i1)]) (va_runV (As := []) (rest := [.int (nI i1)]) ⟨hx, hb, hml, hown, hts⟩ (mr_keys l G ad iS iA iL iT iC iR r pr ar br f pf af bf tx Rw Cl hg) (cwV 0 hts (lw_V q1213 q1215 qs25 q73 q1216) rfl rfl rfl (by decide +kernel) ⟨Nat.le_of_ble_eq_true rfl, Nat.le_of_ble_eq_true rfl⟩) (oPc.preV hE (hE.recv (ci := 12) (hP 0 _ rfl) rfl) hP) rfl rfl hl.1 rfl (lv_room (Nat.le_of_ble_eq_true rfl)) dX5_held_6 ⟨Nat.le_of_ble_eq_true rfl, Nat.le_of_ble_eq_true rfl⟩) rfl ?_
    refine ol_icmp_ge hx hb i1 (Rw * Cl) (by omega) (by omega) (tgt := 39) dX5_held_9 (by decide) (fun c_9 => ?_) (fun c_9 => ?_)
    · refine lv_iload_n hx hb dX5_held_39 rfl (lv_at hl 1 rfl) ?_
      exact ol_iretR hx hb hr hlocks rfl (by rw [show i1 = Rw * Cl by omega]) dX5_held_40
    · refine lv_iload_n hx hb dX5_held_12 rfl (lv_at hl 1 rfl) ?_
      refine lv_aload_n hx hb dX5_held_13 rfl (lv_at hl 2 rfl) ?_
      refine va_get (D := G.1) (ci := 12) (v := .ref (ad 1)) (C := RX5) (T := TX5) (N := 15) hx hb hts in_X5 hown hE.1 hP 0 rfl rfl 0 (by decide) (hts _ q1135) (fun _ h9 => h9) rfl dX5_held_14 ?_
      refine lv_bipush (v := 20) hx hb dX5_held_17 (by decide) ?_
      refine lv_iload_n hx hb dX5_held_19 rfl (lv_at hl 0 rfl) ?_
      refine ol_iadd hx hb 20 i1 dX5_held_20 ?_
      refine ol_iald hx hb hE.1 hP 1 0 rfl rfl (20 + i1) (by omega) (by decide) dX5_held_21 ?_
      refine lv_iload_n hx hb dX5_held_22 rfl (lv_at hl 3 rfl) ?_
      refine lv_icmp_ne (tgt := 30) hx hb dX5_held_23 (by decide) (fun c_23 => ?_) (fun c_23 => ?_)
      · refine lv_iconst (v := 0) hx hb dX5_held_30 (by decide) ?_
        refine ol_iadd hx hb (mHeld r i1 q) 0 dX5_held_31 ?_
        refine lv_istore_n (lv' := [(2, .int (nI (mHeld r i1 q + 0))), (3, .int (nI i1)), (0, .ref (ad 0)), (1, .int q)]) hx hb dX5_held_32 rfl hl (by decide) rfl (fun ls hl => ?_)
        refine ol_iinc (k := 1) (lv' := [(3, .int (nI (i1 + 1))), (2, .int (nI (mHeld r i1 q + 0))), (0, .ref (ad 0)), (1, .int q)]) hx hb 1 i1 dX5_held_33 hl rfl (by decide) rfl (fun ls hl => ?_)
        refine lv_goto (tgt := 4) hx hb dX5_held_36 (by decide) ?_
        have hl : lv_has ls 4 [(3, .int (nI (i1 + 1))), (2, .int (nI (mHeld r (i1 + 1) q))), (0, .ref (ad 0)), (1, .int q)] := by
          rw [show mHeld r (i1 + 1) q = mHeld r i1 q + 0 from by simp [mHeld, rng_c, c_9, Nat.not_le.mpr c_9, c_23]]
          exact lv_sub hl [0, 1, 2, 3] rfl
        exact ih1 ls (i1 + 1) (by omega) hl (by omega)
      · refine lv_iconst (v := 1) hx hb dX5_held_26 (by decide) ?_
        refine lv_goto (tgt := 31) hx hb dX5_held_27 (by decide) ?_
        refine ol_iadd hx hb (mHeld r i1 q) 1 dX5_held_31 ?_
        refine lv_istore_n (lv' := [(2, .int (nI (mHeld r i1 q + 1))), (3, .int (nI i1)), (0, .ref (ad 0)), (1, .int q)]) hx hb dX5_held_32 rfl hl (by decide) rfl (fun ls hl => ?_)
        refine ol_iinc (k := 1) (lv' := [(3, .int (nI (i1 + 1))), (2, .int (nI (mHeld r i1 q + 1))), (0, .ref (ad 0)), (1, .int q)]) hx hb 1 i1 dX5_held_33 hl rfl (by decide) rfl (fun ls hl => ?_)
        refine lv_goto (tgt := 4) hx hb dX5_held_36 (by decide) ?_
        have hl : lv_has ls 4 [(3, .int (nI (i1 + 1))), (2, .int (nI (mHeld r (i1 + 1) q))), (0, .ref (ad 0)), (1, .int q)] := by
          rw [show mHeld r (i1 + 1) q = mHeld r i1 q + 1 from by simp [mHeld, rng_c, c_9, Nat.not_le.mpr c_9, c_23]]
          exact lv_sub hl [0, 1, 2, 3] rfl
        exact ih1 ls (i1 + 1) (by omega) hl (by omega)
set_option maxHeartbeats 4000000 in
set_option maxRecDepth 100000 in
theorem mr_openDisputes (l : Launch) (G : oG) (ad : Nat → Nat) (iS : Int32) (iA : Int32) (iL : Int32) (iT : Int32) (iC : Int32) (iR : Int32) (r : Nat → Int32) (pr : Nat → Int32) (ar : Nat → Int32) (br : Nat → Int32) (f : Nat → UInt32) (pf : Nat → UInt32) (af : Nat → UInt32) (bf : Nat → UInt32) (tx : Nat → Int32)  (nd : Nat) (hnd : r 16 = nI nd) (hn20 : nd ≤ 20) : Met l yX5_openDisputes (ws_ yX5_openDisputes cX5_openDisputes 3 (some .int)) ({ frames := 0, cells := 0, slots := 0, locals := 0 }) (oPc G [.ref (ad 0)] (fun H => va_P G.1 cl0 (mW G ad iS iA iL iT iC iR r pr ar br f pf af bf tx) H)) (oR (some (.int (nI (mOpen r nd))))) 0 0 (fun _ => False) := by
  refine Met.ofW (cc := cX5_openDisputes) (maxL := 3) (ret := (some .int)) (by decide) rfl ?_
  intro p e s m args below meth c s₁ B hml hv
  obtain ⟨rfl, hP, hE⟩ := hv
  have hx := B.exec
  have hb := B.bytes
  have hr := B.returns
  have hts := atoms_spec (ws := ws_ yX5_openDisputes cX5_openDisputes 3 (some .int)) B.pre
  have hts : ∀ w ∈ lw_all, w.before _ s = true := fun w h => hts w (List.mem_cons_of_mem _ h)
  have hown : s.vm.findClass RX5 = some m.cls := findClass_of_methodNamed B.named
  have hlocks := B.notSynchronized
  have hl := lv_entry ([.ref (ad 0)]) (n := 3) (Nat.le_of_ble_eq_true rfl)
  rw [lg_entry_eq]
  generalize (lg_sl ([.ref (ad 0)]) ++ List.replicate (3 - (lg_sl ([.ref (ad 0)])).length) Slot.unset).toArray = ls at hl ⊢
  replace hl : lv_has ls 3 [(0, .ref (ad 0))] := hl
  refine lv_iconst (v := 0) hx hb dX5_openDisputes_0 (by decide) ?_
  refine lv_istore_n (lv' := [(1, .int 0), (0, .ref (ad 0))]) hx hb dX5_openDisputes_1 rfl hl (by decide) rfl (fun ls hl => ?_)
  refine lv_iconst (v := 0) hx hb dX5_openDisputes_2 (by decide) ?_
  refine lv_istore_n (lv' := [(2, .int 0), (1, .int 0), (0, .ref (ad 0))]) hx hb dX5_openDisputes_3 rfl hl (by decide) rfl (fun ls hl => ?_)
  obtain ⟨i1, hi1, hl1⟩ : ∃ i1 : Nat, i1 ≤ nd ∧ lv_has ls 3 [(2, .int (nI i1)), (1, .int (nI (mOpen r i1))), (0, .ref (ad 0))] := ⟨0, by omega, lv_sub hl [0, 1, 2] rfl⟩
  clear hl; have hl := hl1; clear hl1
  obtain ⟨d1, hd1⟩ : ∃ d1 : Nat, nd < i1 + d1 := ⟨nd + 1, by omega⟩
  induction d1 generalizing i1 ls with
  | zero => exact absurd hd1 (by omega)
  | succ d1 ih1 =>
    refine lv_iload_n hx hb dX5_openDisputes_4 rfl (lv_at hl 0 rfl) ?_
    refine lv_aload_n hx hb dX5_openDisputes_5 rfl (lv_at hl 2 rfl) ?_
    refine va_get (D := G.1) (ci := 12) (v := .ref (ad 1)) (C := RX5) (T := TX5) (N := 15) hx hb hts in_X5 hown hE.1 hP 0 rfl rfl 0 (by decide) (hts _ q1135) (fun _ h9 => h9) rfl dX5_openDisputes_6 ?_
    refine lv_bipush (v := 16) hx hb dX5_openDisputes_9 (by decide) ?_
    refine ol_iald hx hb hE.1 hP 1 0 rfl rfl 16 (by decide) (by decide) dX5_openDisputes_11 ?_
    refine ol_top (y := nI nd) hnd ?_
    refine ol_icmp_ge hx hb i1 nd (by omega) (by omega) (tgt := 47) dX5_openDisputes_12 (by decide) (fun c_12 => ?_) (fun c_12 => ?_)
    · refine lv_iload_n hx hb dX5_openDisputes_47 rfl (lv_at hl 1 rfl) ?_
      exact ol_iretR hx hb hr hlocks rfl (by rw [show i1 = nd by omega]) dX5_openDisputes_48
    · refine lv_iload_n hx hb dX5_openDisputes_15 rfl (lv_at hl 1 rfl) ?_
      refine lv_aload_n hx hb dX5_openDisputes_16 rfl (lv_at hl 2 rfl) ?_
      refine va_get (D := G.1) (ci := 12) (v := .ref (ad 1)) (C := RX5) (T := TX5) (N := 15) hx hb hts in_X5 hown hE.1 hP 0 rfl rfl 0 (by decide) (hts _ q1135) (fun _ h9 => h9) rfl dX5_openDisputes_17 ?_
      refine lv_sipush (v := 404) hx hb dX5_openDisputes_20 (by decide) ?_
      refine lv_bipush (v := 7) hx hb dX5_openDisputes_23 (by decide) ?_
      refine lv_iload_n hx hb dX5_openDisputes_25 rfl (lv_at hl 0 rfl) ?_
      refine ol_imul hx hb 7 i1 dX5_openDisputes_26 ?_
      refine ol_iadd hx hb 404 (7 * i1) dX5_openDisputes_27 ?_
      refine lv_iconst (v := 3) hx hb dX5_openDisputes_28 (by decide) ?_
      refine ol_iadd hx hb (404 + (7 * i1)) 3 dX5_openDisputes_29 ?_
      refine ol_iald hx hb hE.1 hP 1 0 rfl rfl (404 + (7 * i1) + 3) (by omega) (by decide) dX5_openDisputes_30 ?_
      refine lv_if_ge (tgt := 38) hx hb dX5_openDisputes_31 (by decide) (fun c_31 => ?_) (fun c_31 => ?_)
      · refine lv_iconst (v := 0) hx hb dX5_openDisputes_38 (by decide) ?_
        refine ol_iadd hx hb (mOpen r i1) 0 dX5_openDisputes_39 ?_
        refine lv_istore_n (lv' := [(1, .int (nI (mOpen r i1 + 0))), (2, .int (nI i1)), (0, .ref (ad 0))]) hx hb dX5_openDisputes_40 rfl hl (by decide) rfl (fun ls hl => ?_)
        refine ol_iinc (k := 1) (lv' := [(2, .int (nI (i1 + 1))), (1, .int (nI (mOpen r i1 + 0))), (0, .ref (ad 0))]) hx hb 1 i1 dX5_openDisputes_41 hl rfl (by decide) rfl (fun ls hl => ?_)
        refine lv_goto (tgt := 4) hx hb dX5_openDisputes_44 (by decide) ?_
        have hl : lv_has ls 3 [(2, .int (nI (i1 + 1))), (1, .int (nI (mOpen r (i1 + 1)))), (0, .ref (ad 0))] := by
          rw [show mOpen r (i1 + 1) = mOpen r i1 + 0 from by simp [mOpen, rng_c, c_12, Nat.not_le.mpr c_12, c_31, Int32.not_lt.mpr c_31]]
          exact lv_sub hl [0, 1, 2] rfl
        exact ih1 ls (i1 + 1) (by omega) hl (by omega)
      · refine lv_iconst (v := 1) hx hb dX5_openDisputes_34 (by decide) ?_
        refine lv_goto (tgt := 39) hx hb dX5_openDisputes_35 (by decide) ?_
        refine ol_iadd hx hb (mOpen r i1) 1 dX5_openDisputes_39 ?_
        refine lv_istore_n (lv' := [(1, .int (nI (mOpen r i1 + 1))), (2, .int (nI i1)), (0, .ref (ad 0))]) hx hb dX5_openDisputes_40 rfl hl (by decide) rfl (fun ls hl => ?_)
        refine ol_iinc (k := 1) (lv' := [(2, .int (nI (i1 + 1))), (1, .int (nI (mOpen r i1 + 1))), (0, .ref (ad 0))]) hx hb 1 i1 dX5_openDisputes_41 hl rfl (by decide) rfl (fun ls hl => ?_)
        refine lv_goto (tgt := 4) hx hb dX5_openDisputes_44 (by decide) ?_
        have hl : lv_has ls 3 [(2, .int (nI (i1 + 1))), (1, .int (nI (mOpen r (i1 + 1)))), (0, .ref (ad 0))] := by
          rw [show mOpen r (i1 + 1) = mOpen r i1 + 1 from by simp [mOpen, rng_c, c_12, Nat.not_le.mpr c_12, c_31, Int32.not_le.mp c_31]]
          exact lv_sub hl [0, 1, 2] rfl
        exact ih1 ls (i1 + 1) (by omega) hl (by omega)
set_option maxHeartbeats 4000000 in
set_option maxRecDepth 100000 in
theorem mr_keysThat (l : Launch) (G : oG) (ad : Nat → Nat) (iS : Int32) (iA : Int32) (iL : Int32) (iT : Int32) (iC : Int32) (iR : Int32) (r : Nat → Int32) (pr : Nat → Int32) (ar : Nat → Int32) (br : Nat → Int32) (f : Nat → UInt32) (pf : Nat → UInt32) (af : Nat → UInt32) (bf : Nat → UInt32) (tx : Nat → Int32) (q : Int32) (Rw Cl : Nat) (hg : mG r Rw Cl) : Met l yX5_keysThat (ws_ yX5_keysThat cX5_keysThat 5 (some .int)) ({ frames := 1, cells := 0, slots := 0, locals := 21 }) (oPc G [.ref (ad 0), .int q] (fun H => va_P G.1 cl0 (mW G ad iS iA iL iT iC iR r pr ar br f pf af bf tx) H)) (oR (some (.int (nI (mThats r q (Rw * Cl)))))) 0 0 (fun _ => False) := by
  refine Met.ofW (cc := cX5_keysThat) (maxL := 5) (ret := (some .int)) (by decide) rfl ?_
  intro p e s m args below meth c s₁ B hml hv
  obtain ⟨rfl, hP, hE⟩ := hv
  have hx := B.exec
  have hb := B.bytes
  have hr := B.returns
  have hts := atoms_spec (ws := ws_ yX5_keysThat cX5_keysThat 5 (some .int)) B.pre
  have hts : ∀ w ∈ lw_all, w.before _ s = true := fun w h => hts w (List.mem_cons_of_mem _ h)
  have hown : s.vm.findClass RX5 = some m.cls := findClass_of_methodNamed B.named
  have hlocks := B.notSynchronized
  have hl := lv_entry ([.ref (ad 0), .int q]) (n := 5) (Nat.le_of_ble_eq_true rfl)
  rw [lg_entry_eq]
  generalize (lg_sl ([.ref (ad 0), .int q]) ++ List.replicate (5 - (lg_sl ([.ref (ad 0), .int q])).length) Slot.unset).toArray = ls at hl ⊢
  replace hl : lv_has ls 5 [(0, .ref (ad 0)), (1, .int q)] := hl
  have hgn := mG_n hg
  have hg' := hg
  obtain ⟨hg0, hg1, hg2, hg3, hg4, hg5⟩ := hg'
  refine lv_iconst (v := 0) hx hb dX5_keysThat_0 (by decide) ?_
  refine lv_istore_n (lv' := [(2, .int 0), (0, .ref (ad 0)), (1, .int q)]) hx hb dX5_keysThat_1 rfl hl (by decide) rfl (fun ls hl => ?_)
  refine lv_iconst (v := 0) hx hb dX5_keysThat_2 (by decide) ?_
  refine lv_istore_n (lv' := [(3, .int 0), (2, .int 0), (0, .ref (ad 0)), (1, .int q)]) hx hb dX5_keysThat_3 rfl hl (by decide) rfl (fun ls hl => ?_)
  obtain ⟨i1, hi1, hl1⟩ : ∃ i1 : Nat, i1 ≤ Rw * Cl ∧ lv_has ls 5 [(3, .int (nI i1)), (2, .int (nI (mThats r q i1))), (0, .ref (ad 0)), (1, .int q)] := ⟨0, by omega, lv_sub hl [0, 1, 2, 3] rfl⟩
  clear hl; have hl := hl1; clear hl1
  obtain ⟨d1, hd1⟩ : ∃ d1 : Nat, Rw * Cl < i1 + d1 := ⟨Rw * Cl + 1, by omega⟩
  induction d1 generalizing i1 ls with
  | zero => exact absurd hd1 (by omega)
  | succ d1 ih1 =>
    refine lv_iload_n hx hb dX5_keysThat_4 rfl (lv_at hl 0 rfl) ?_
    refine lv_aload_n hx hb dX5_keysThat_5 rfl (lv_at hl 2 rfl) ?_
    refine ol_cR (st1 := [.int (nI (Rw * Cl)), .int (nI i1)]) (va_runV (As := []) (rest := [.int (nI i1)]) ⟨hx, hb, hml, hown, hts⟩ (mr_keys l G ad iS iA iL iT iC iR r pr ar br f pf af bf tx Rw Cl hg) (cwV 0 hts (lw_V q1213 q1215 qs25 q73 q1216) rfl rfl rfl (by decide +kernel) ⟨Nat.le_of_ble_eq_true rfl, Nat.le_of_ble_eq_true rfl⟩) (oPc.preV hE (hE.recv (ci := 12) (hP 0 _ rfl) rfl) hP) rfl rfl hl.1 rfl (lv_room (Nat.le_of_ble_eq_true rfl)) dX5_keysThat_6 ⟨Nat.le_of_ble_eq_true rfl, Nat.le_of_ble_eq_true rfl⟩) rfl ?_
    refine ol_icmp_ge hx hb i1 (Rw * Cl) (by omega) (by omega) (tgt := 85) dX5_keysThat_9 (by decide) (fun c_9 => ?_) (fun c_9 => ?_)
    · refine lv_iload_n hx hb dX5_keysThat_85 rfl (lv_at hl 1 rfl) ?_
      exact ol_iretR hx hb hr hlocks rfl (by rw [show i1 = Rw * Cl by omega]) dX5_keysThat_86
    · refine lv_iload_n hx hb dX5_keysThat_12 rfl (lv_at hl 3 rfl) ?_
      refine lv_iconst (v := 3) hx hb dX5_keysThat_13 (by decide) ?_
      refine lv_icmp_ne (tgt := 25) hx hb dX5_keysThat_14 (by decide) (fun c_14 => ?_) (fun c_14 => ?_)
      · refine lv_iload_n hx hb dX5_keysThat_25 rfl (lv_at hl 3 rfl) ?_
        refine lv_iconst (v := 4) hx hb dX5_keysThat_26 (by decide) ?_
        refine lv_icmp_ne (tgt := 38) hx hb dX5_keysThat_27 (by decide) (fun c_27 => ?_) (fun c_27 => ?_)
        · refine lv_aload_n hx hb dX5_keysThat_38 rfl (lv_at hl 2 rfl) ?_
          refine lv_iload_n hx hb dX5_keysThat_39 rfl (lv_at hl 0 rfl) ?_
          refine ol_cR (st1 := [.int (zB (sn r i1))]) (va_runV (As := [.int (nI i1)]) (rest := []) ⟨hx, hb, hml, hown, hts⟩ (mr_isSeen l G ad iS iA iL iT iC iR r pr ar br f pf af bf tx i1 (by omega)) (cwV 1 hts (lw_V q1221 q1223 qs27 q73 q1224) rfl rfl rfl (by decide +kernel) ⟨Nat.le_of_ble_eq_true rfl, Nat.le_of_ble_eq_true rfl⟩) (oPc.preV hE (hE.recv (ci := 12) (hP 0 _ rfl) rfl) hP) rfl rfl hl.1 rfl (lv_room (Nat.le_of_ble_eq_true rfl)) dX5_keysThat_40 ⟨Nat.le_of_ble_eq_true rfl, Nat.le_of_ble_eq_true rfl⟩) rfl ?_
          refine ol_if_eqB hx hb (sn r i1) (tgt := 63) dX5_keysThat_43 (by decide) (fun c_43 => ?_) (fun c_43 => ?_)
          · refine lv_iconst (v := 0) hx hb dX5_keysThat_63 (by decide) ?_
            refine lv_istore (lv' := [(4, .int 0), (3, .int (nI i1)), (2, .int (nI (mThats r q i1))), (0, .ref (ad 0)), (1, .int q)]) hx hb dX5_keysThat_64 hl (by decide) rfl (fun ls hl => ?_)
            refine lv_iload_n hx hb dX5_keysThat_66 rfl (lv_at hl 2 rfl) ?_
            refine lv_iload hx hb dX5_keysThat_67 (lv_at hl 0 rfl) ?_
            refine ol_if_eq hx hb 0 (by omega) (tgt := 76) dX5_keysThat_69 (by decide) (fun c_69 => ?_) (fun c_69 => ?_)
            · refine lv_iconst (v := 0) hx hb dX5_keysThat_76 (by decide) ?_
              refine ol_iadd hx hb (mThats r q i1) 0 dX5_keysThat_77 ?_
              refine lv_istore_n (lv' := [(2, .int (nI (mThats r q i1 + 0))), (4, .int 0), (3, .int (nI i1)), (0, .ref (ad 0)), (1, .int q)]) hx hb dX5_keysThat_78 rfl hl (by decide) rfl (fun ls hl => ?_)
              refine ol_iinc (k := 2) (lv' := [(3, .int (nI (i1 + 1))), (2, .int (nI (mThats r q i1 + 0))), (4, .int 0), (0, .ref (ad 0)), (1, .int q)]) hx hb 1 i1 dX5_keysThat_79 hl rfl (by decide) rfl (fun ls hl => ?_)
              refine lv_goto (tgt := 4) hx hb dX5_keysThat_82 (by decide) ?_
              have hl : lv_has ls 5 [(3, .int (nI (i1 + 1))), (2, .int (nI (mThats r q (i1 + 1)))), (0, .ref (ad 0)), (1, .int q)] := by
                rw [show mThats r q (i1 + 1) = mThats r q i1 + 0 from by simp [mThats, mThat, rng_c, c_9, Nat.not_le.mpr c_9, c_14, c_27, c_43, c_69]]
                exact lv_sub hl [0, 1, 3, 4] rfl
              exact ih1 ls (i1 + 1) (by omega) hl (by omega)
            · exact absurd c_69 (by decide)
          · refine lv_aload_n hx hb dX5_keysThat_46 rfl (lv_at hl 2 rfl) ?_
            refine va_get (D := G.1) (ci := 12) (v := .ref (ad 1)) (C := RX5) (T := TX5) (N := 15) hx hb hts in_X5 hown hE.1 hP 0 rfl rfl 0 (by decide) (hts _ q1135) (fun _ h9 => h9) rfl dX5_keysThat_47 ?_
            refine lv_bipush (v := 116) hx hb dX5_keysThat_50 (by decide) ?_
            refine lv_iload_n hx hb dX5_keysThat_52 rfl (lv_at hl 0 rfl) ?_
            refine ol_iadd hx hb 116 i1 dX5_keysThat_53 ?_
            refine ol_iald hx hb hE.1 hP 1 0 rfl rfl (116 + i1) (by omega) (by decide) dX5_keysThat_54 ?_
            refine lv_iconst (v := 1) hx hb dX5_keysThat_55 (by decide) ?_
            refine lv_icmp_ne (tgt := 63) hx hb dX5_keysThat_56 (by decide) (fun c_56 => ?_) (fun c_56 => ?_)
            · refine lv_iconst (v := 0) hx hb dX5_keysThat_63 (by decide) ?_
              refine lv_istore (lv' := [(4, .int 0), (3, .int (nI i1)), (2, .int (nI (mThats r q i1))), (0, .ref (ad 0)), (1, .int q)]) hx hb dX5_keysThat_64 hl (by decide) rfl (fun ls hl => ?_)
              refine lv_iload_n hx hb dX5_keysThat_66 rfl (lv_at hl 2 rfl) ?_
              refine lv_iload hx hb dX5_keysThat_67 (lv_at hl 0 rfl) ?_
              refine ol_if_eq hx hb 0 (by omega) (tgt := 76) dX5_keysThat_69 (by decide) (fun c_69 => ?_) (fun c_69 => ?_)
              · refine lv_iconst (v := 0) hx hb dX5_keysThat_76 (by decide) ?_
                refine ol_iadd hx hb (mThats r q i1) 0 dX5_keysThat_77 ?_
                refine lv_istore_n (lv' := [(2, .int (nI (mThats r q i1 + 0))), (4, .int 0), (3, .int (nI i1)), (0, .ref (ad 0)), (1, .int q)]) hx hb dX5_keysThat_78 rfl hl (by decide) rfl (fun ls hl => ?_)
                refine ol_iinc (k := 2) (lv' := [(3, .int (nI (i1 + 1))), (2, .int (nI (mThats r q i1 + 0))), (4, .int 0), (0, .ref (ad 0)), (1, .int q)]) hx hb 1 i1 dX5_keysThat_79 hl rfl (by decide) rfl (fun ls hl => ?_)
                refine lv_goto (tgt := 4) hx hb dX5_keysThat_82 (by decide) ?_
                have hl : lv_has ls 5 [(3, .int (nI (i1 + 1))), (2, .int (nI (mThats r q (i1 + 1)))), (0, .ref (ad 0)), (1, .int q)] := by
                  rw [show mThats r q (i1 + 1) = mThats r q i1 + 0 from by simp [mThats, mThat, rng_c, c_9, Nat.not_le.mpr c_9, c_14, c_27, c_43, c_56, c_69]]
                  exact lv_sub hl [0, 1, 3, 4] rfl
                exact ih1 ls (i1 + 1) (by omega) hl (by omega)
              · exact absurd c_69 (by decide)
            · refine lv_iconst (v := 1) hx hb dX5_keysThat_59 (by decide) ?_
              refine lv_goto (tgt := 64) hx hb dX5_keysThat_60 (by decide) ?_
              refine lv_istore (lv' := [(4, .int 1), (3, .int (nI i1)), (2, .int (nI (mThats r q i1))), (0, .ref (ad 0)), (1, .int q)]) hx hb dX5_keysThat_64 hl (by decide) rfl (fun ls hl => ?_)
              refine lv_iload_n hx hb dX5_keysThat_66 rfl (lv_at hl 2 rfl) ?_
              refine lv_iload hx hb dX5_keysThat_67 (lv_at hl 0 rfl) ?_
              refine ol_if_eq hx hb 1 (by omega) (tgt := 76) dX5_keysThat_69 (by decide) (fun c_69 => ?_) (fun c_69 => ?_)
              · exact absurd c_69 (by decide)
              · refine lv_iconst (v := 1) hx hb dX5_keysThat_72 (by decide) ?_
                refine lv_goto (tgt := 77) hx hb dX5_keysThat_73 (by decide) ?_
                refine ol_iadd hx hb (mThats r q i1) 1 dX5_keysThat_77 ?_
                refine lv_istore_n (lv' := [(2, .int (nI (mThats r q i1 + 1))), (4, .int 1), (3, .int (nI i1)), (0, .ref (ad 0)), (1, .int q)]) hx hb dX5_keysThat_78 rfl hl (by decide) rfl (fun ls hl => ?_)
                refine ol_iinc (k := 2) (lv' := [(3, .int (nI (i1 + 1))), (2, .int (nI (mThats r q i1 + 1))), (4, .int 1), (0, .ref (ad 0)), (1, .int q)]) hx hb 1 i1 dX5_keysThat_79 hl rfl (by decide) rfl (fun ls hl => ?_)
                refine lv_goto (tgt := 4) hx hb dX5_keysThat_82 (by decide) ?_
                have hl : lv_has ls 5 [(3, .int (nI (i1 + 1))), (2, .int (nI (mThats r q (i1 + 1)))), (0, .ref (ad 0)), (1, .int q)] := by
                  rw [show mThats r q (i1 + 1) = mThats r q i1 + 1 from by simp [mThats, mThat, rng_c, c_9, Nat.not_le.mpr c_9, c_14, c_27, c_43, c_56, c_69]]
                  exact lv_sub hl [0, 1, 3, 4] rfl
                exact ih1 ls (i1 + 1) (by omega) hl (by omega)
        · refine lv_aload_n hx hb dX5_keysThat_30 rfl (lv_at hl 2 rfl) ?_
          refine lv_iload_n hx hb dX5_keysThat_31 rfl (lv_at hl 0 rfl) ?_
          refine ol_cR (st1 := [.int (zB (sn r i1))]) (va_runV (As := [.int (nI i1)]) (rest := []) ⟨hx, hb, hml, hown, hts⟩ (mr_isSeen l G ad iS iA iL iT iC iR r pr ar br f pf af bf tx i1 (by omega)) (cwV 1 hts (lw_V q1221 q1223 qs27 q73 q1224) rfl rfl rfl (by decide +kernel) ⟨Nat.le_of_ble_eq_true rfl, Nat.le_of_ble_eq_true rfl⟩) (oPc.preV hE (hE.recv (ci := 12) (hP 0 _ rfl) rfl) hP) rfl rfl hl.1 rfl (lv_room (Nat.le_of_ble_eq_true rfl)) dX5_keysThat_32 ⟨Nat.le_of_ble_eq_true rfl, Nat.le_of_ble_eq_true rfl⟩) rfl ?_
          refine lv_goto (tgt := 64) hx hb dX5_keysThat_35 (by decide) ?_
          refine lv_istore (lv' := [(4, .int (zB (sn r i1))), (3, .int (nI i1)), (2, .int (nI (mThats r q i1))), (0, .ref (ad 0)), (1, .int q)]) hx hb dX5_keysThat_64 hl (by decide) rfl (fun ls hl => ?_)
          refine lv_iload_n hx hb dX5_keysThat_66 rfl (lv_at hl 2 rfl) ?_
          refine lv_iload hx hb dX5_keysThat_67 (lv_at hl 0 rfl) ?_
          refine ol_if_eqB hx hb (sn r i1) (tgt := 76) dX5_keysThat_69 (by decide) (fun c_69 => ?_) (fun c_69 => ?_)
          · refine lv_iconst (v := 0) hx hb dX5_keysThat_76 (by decide) ?_
            refine ol_iadd hx hb (mThats r q i1) 0 dX5_keysThat_77 ?_
            refine lv_istore_n (lv' := [(2, .int (nI (mThats r q i1 + 0))), (4, .int (zB (sn r i1))), (3, .int (nI i1)), (0, .ref (ad 0)), (1, .int q)]) hx hb dX5_keysThat_78 rfl hl (by decide) rfl (fun ls hl => ?_)
            refine ol_iinc (k := 2) (lv' := [(3, .int (nI (i1 + 1))), (2, .int (nI (mThats r q i1 + 0))), (4, .int (zB (sn r i1))), (0, .ref (ad 0)), (1, .int q)]) hx hb 1 i1 dX5_keysThat_79 hl rfl (by decide) rfl (fun ls hl => ?_)
            refine lv_goto (tgt := 4) hx hb dX5_keysThat_82 (by decide) ?_
            have hl : lv_has ls 5 [(3, .int (nI (i1 + 1))), (2, .int (nI (mThats r q (i1 + 1)))), (0, .ref (ad 0)), (1, .int q)] := by
              rw [show mThats r q (i1 + 1) = mThats r q i1 + 0 from by simp [mThats, mThat, rng_c, c_9, Nat.not_le.mpr c_9, c_14, c_27, c_69]]
              exact lv_sub hl [0, 1, 3, 4] rfl
            exact ih1 ls (i1 + 1) (by omega) hl (by omega)
          · refine lv_iconst (v := 1) hx hb dX5_keysThat_72 (by decide) ?_
            refine lv_goto (tgt := 77) hx hb dX5_keysThat_73 (by decide) ?_
            refine ol_iadd hx hb (mThats r q i1) 1 dX5_keysThat_77 ?_
            refine lv_istore_n (lv' := [(2, .int (nI (mThats r q i1 + 1))), (4, .int (zB (sn r i1))), (3, .int (nI i1)), (0, .ref (ad 0)), (1, .int q)]) hx hb dX5_keysThat_78 rfl hl (by decide) rfl (fun ls hl => ?_)
            refine ol_iinc (k := 2) (lv' := [(3, .int (nI (i1 + 1))), (2, .int (nI (mThats r q i1 + 1))), (4, .int (zB (sn r i1))), (0, .ref (ad 0)), (1, .int q)]) hx hb 1 i1 dX5_keysThat_79 hl rfl (by decide) rfl (fun ls hl => ?_)
            refine lv_goto (tgt := 4) hx hb dX5_keysThat_82 (by decide) ?_
            have hl : lv_has ls 5 [(3, .int (nI (i1 + 1))), (2, .int (nI (mThats r q (i1 + 1)))), (0, .ref (ad 0)), (1, .int q)] := by
              rw [show mThats r q (i1 + 1) = mThats r q i1 + 1 from by simp [mThats, mThat, rng_c, c_9, Nat.not_le.mpr c_9, c_14, c_27, c_69]]
              exact lv_sub hl [0, 1, 3, 4] rfl
            exact ih1 ls (i1 + 1) (by omega) hl (by omega)
      · refine lv_aload_n hx hb dX5_keysThat_17 rfl (lv_at hl 2 rfl) ?_
        refine lv_iload_n hx hb dX5_keysThat_18 rfl (lv_at hl 0 rfl) ?_
        refine ol_cR (st1 := [.int (zB (dn r i1))]) (va_runV (As := [.int (nI i1)]) (rest := []) ⟨hx, hb, hml, hown, hts⟩ (mr_isDown l G ad iS iA iL iT iC iR r pr ar br f pf af bf tx i1 (by omega)) (cwV 1 hts (lw_V q1217 q1219 qs26 q73 q1220) rfl rfl rfl (by decide +kernel) ⟨Nat.le_of_ble_eq_true rfl, Nat.le_of_ble_eq_true rfl⟩) (oPc.preV hE (hE.recv (ci := 12) (hP 0 _ rfl) rfl) hP) rfl rfl hl.1 rfl (lv_room (Nat.le_of_ble_eq_true rfl)) dX5_keysThat_19 ⟨Nat.le_of_ble_eq_true rfl, Nat.le_of_ble_eq_true rfl⟩) rfl ?_
        refine lv_goto (tgt := 64) hx hb dX5_keysThat_22 (by decide) ?_
        refine lv_istore (lv' := [(4, .int (zB (dn r i1))), (3, .int (nI i1)), (2, .int (nI (mThats r q i1))), (0, .ref (ad 0)), (1, .int q)]) hx hb dX5_keysThat_64 hl (by decide) rfl (fun ls hl => ?_)
        refine lv_iload_n hx hb dX5_keysThat_66 rfl (lv_at hl 2 rfl) ?_
        refine lv_iload hx hb dX5_keysThat_67 (lv_at hl 0 rfl) ?_
        refine ol_if_eqB hx hb (dn r i1) (tgt := 76) dX5_keysThat_69 (by decide) (fun c_69 => ?_) (fun c_69 => ?_)
        · refine lv_iconst (v := 0) hx hb dX5_keysThat_76 (by decide) ?_
          refine ol_iadd hx hb (mThats r q i1) 0 dX5_keysThat_77 ?_
          refine lv_istore_n (lv' := [(2, .int (nI (mThats r q i1 + 0))), (4, .int (zB (dn r i1))), (3, .int (nI i1)), (0, .ref (ad 0)), (1, .int q)]) hx hb dX5_keysThat_78 rfl hl (by decide) rfl (fun ls hl => ?_)
          refine ol_iinc (k := 2) (lv' := [(3, .int (nI (i1 + 1))), (2, .int (nI (mThats r q i1 + 0))), (4, .int (zB (dn r i1))), (0, .ref (ad 0)), (1, .int q)]) hx hb 1 i1 dX5_keysThat_79 hl rfl (by decide) rfl (fun ls hl => ?_)
          refine lv_goto (tgt := 4) hx hb dX5_keysThat_82 (by decide) ?_
          have hl : lv_has ls 5 [(3, .int (nI (i1 + 1))), (2, .int (nI (mThats r q (i1 + 1)))), (0, .ref (ad 0)), (1, .int q)] := by
            rw [show mThats r q (i1 + 1) = mThats r q i1 + 0 from by simp [mThats, mThat, rng_c, c_9, Nat.not_le.mpr c_9, c_14, c_69]]
            exact lv_sub hl [0, 1, 3, 4] rfl
          exact ih1 ls (i1 + 1) (by omega) hl (by omega)
        · refine lv_iconst (v := 1) hx hb dX5_keysThat_72 (by decide) ?_
          refine lv_goto (tgt := 77) hx hb dX5_keysThat_73 (by decide) ?_
          refine ol_iadd hx hb (mThats r q i1) 1 dX5_keysThat_77 ?_
          refine lv_istore_n (lv' := [(2, .int (nI (mThats r q i1 + 1))), (4, .int (zB (dn r i1))), (3, .int (nI i1)), (0, .ref (ad 0)), (1, .int q)]) hx hb dX5_keysThat_78 rfl hl (by decide) rfl (fun ls hl => ?_)
          refine ol_iinc (k := 2) (lv' := [(3, .int (nI (i1 + 1))), (2, .int (nI (mThats r q i1 + 1))), (4, .int (zB (dn r i1))), (0, .ref (ad 0)), (1, .int q)]) hx hb 1 i1 dX5_keysThat_79 hl rfl (by decide) rfl (fun ls hl => ?_)
          refine lv_goto (tgt := 4) hx hb dX5_keysThat_82 (by decide) ?_
          have hl : lv_has ls 5 [(3, .int (nI (i1 + 1))), (2, .int (nI (mThats r q (i1 + 1)))), (0, .ref (ad 0)), (1, .int q)] := by
            rw [show mThats r q (i1 + 1) = mThats r q i1 + 1 from by simp [mThats, mThat, rng_c, c_9, Nat.not_le.mpr c_9, c_14, c_69]]
            exact lv_sub hl [0, 1, 3, 4] rfl
          exact ih1 ls (i1 + 1) (by omega) hl (by omega)
set_option maxHeartbeats 4000000 in
set_option maxRecDepth 100000 in
theorem mr_isOn (l : Launch) (G : oG) (ad : Nat → Nat) (iS : Int32) (iA : Int32) (iL : Int32) (iT : Int32) (iC : Int32) (iR : Int32) (r : Nat → Int32) (pr : Nat → Int32) (ar : Nat → Int32) (br : Nat → Int32) (f : Nat → UInt32) (pf : Nat → UInt32) (af : Nat → UInt32) (bf : Nat → UInt32) (tx : Nat → Int32) (q : Nat)  (hq : q < 2) (hsh : mShs r) : Met l yX5_isOn (ws_ yX5_isOn cX5_isOn 3 (some .boolean)) ({ frames := 1, cells := 0, slots := 0, locals := 21 }) (oPc G [.ref (ad 0), .int (nI q)] (fun H => va_P G.1 cl0 (mW G ad iS iA iL iT iC iR r pr ar br f pf af bf tx) H)) (oR (some (.int (zB (mOn r q))))) 0 0 (fun _ => False) := by
  refine Met.ofW (cc := cX5_isOn) (maxL := 3) (ret := (some .boolean)) (by decide) rfl ?_
  intro p e s m args below meth c s₁ B hml hv
  obtain ⟨rfl, hP, hE⟩ := hv
  have hx := B.exec
  have hb := B.bytes
  have hr := B.returns
  have hts := atoms_spec (ws := ws_ yX5_isOn cX5_isOn 3 (some .boolean)) B.pre
  have hts : ∀ w ∈ lw_all, w.before _ s = true := fun w h => hts w (List.mem_cons_of_mem _ h)
  have hown : s.vm.findClass RX5 = some m.cls := findClass_of_methodNamed B.named
  have hlocks := B.notSynchronized
  have hl := lv_entry ([.ref (ad 0), .int (nI q)]) (n := 3) (Nat.le_of_ble_eq_true rfl)
  rw [lg_entry_eq]
  generalize (lg_sl ([.ref (ad 0), .int (nI q)]) ++ List.replicate (3 - (lg_sl ([.ref (ad 0), .int (nI q)])).length) Slot.unset).toArray = ls at hl ⊢
  replace hl : lv_has ls 3 [(0, .ref (ad 0)), (1, .int (nI q))] := hl
  refine lv_aload_n hx hb dX5_isOn_0 rfl (lv_at hl 0 rfl) ?_
  refine va_get (D := G.1) (ci := 12) (v := .ref (ad 1)) (C := RX5) (T := TX5) (N := 15) hx hb hts in_X5 hown hE.1 hP 0 rfl rfl 0 (by decide) (hts _ q1135) (fun _ h9 => h9) rfl dX5_isOn_1 ?_
  refine lv_iconst (v := 5) hx hb dX5_isOn_4 (by decide) ?_
  refine lv_iload_n hx hb dX5_isOn_5 rfl (lv_at hl 1 rfl) ?_
  refine ol_iadd hx hb 5 q dX5_isOn_6 ?_
  refine ol_iald hx hb hE.1 hP 1 0 rfl rfl (5 + q) (by omega) (by decide) dX5_isOn_7 ?_
  refine lv_istore_n (lv' := [(2, .int (r (5 + q))), (0, .ref (ad 0)), (1, .int (nI q))]) hx hb dX5_isOn_8 rfl hl (by decide) rfl (fun ls hl => ?_)
  refine lv_iload_n hx hb dX5_isOn_9 rfl (lv_at hl 0 rfl) ?_
  refine lv_if_lt (tgt := 37) hx hb dX5_isOn_10 (by decide) (fun c_10 => ?_) (fun c_10 => ?_)
  · refine lv_iconst (v := 0) hx hb dX5_isOn_37 (by decide) ?_
    exact ol_zretR hx hb hr hlocks rfl (by simp [mOn, zB, c_10, Int32.not_le.mpr c_10]) dX5_isOn_38
  · have hj := (hsh q hq c_10).1
    refine lv_aload_n hx hb dX5_isOn_13 rfl (lv_at hl 1 rfl) ?_
    refine lv_iload_n hx hb dX5_isOn_14 rfl (lv_at hl 0 rfl) ?_
    refine ol_top (y := nI (cN (r (5 + q)))) (hsh q hq c_10).2 ?_
    refine ol_cR (st1 := [.int (zB (sn r (cN (r (5 + q)))))]) (va_runV (As := [.int (nI (cN (r (5 + q))))]) (rest := []) ⟨hx, hb, hml, hown, hts⟩ (mr_isSeen l G ad iS iA iL iT iC iR r pr ar br f pf af bf tx (cN (r (5 + q))) (by omega)) (cwV 1 hts (lw_V q1221 q1223 qs27 q73 q1224) rfl rfl rfl (by decide +kernel) ⟨Nat.le_of_ble_eq_true rfl, Nat.le_of_ble_eq_true rfl⟩) (oPc.preV hE (hE.recv (ci := 12) (hP 0 _ rfl) rfl) hP) rfl rfl hl.1 rfl (lv_room (Nat.le_of_ble_eq_true rfl)) dX5_isOn_15 ⟨Nat.le_of_ble_eq_true rfl, Nat.le_of_ble_eq_true rfl⟩) rfl ?_
    refine ol_if_eqB hx hb (sn r (cN (r (5 + q)))) (tgt := 37) dX5_isOn_18 (by decide) (fun c_18 => ?_) (fun c_18 => ?_)
    · refine lv_iconst (v := 0) hx hb dX5_isOn_37 (by decide) ?_
      exact ol_zretR hx hb hr hlocks rfl (by simp [mOn, zB, c_10, Int32.not_lt.mp c_10, c_18]) dX5_isOn_38
    · refine lv_aload_n hx hb dX5_isOn_21 rfl (lv_at hl 1 rfl) ?_
      refine va_get (D := G.1) (ci := 12) (v := .ref (ad 1)) (C := RX5) (T := TX5) (N := 15) hx hb hts in_X5 hown hE.1 hP 0 rfl rfl 0 (by decide) (hts _ q1135) (fun _ h9 => h9) rfl dX5_isOn_22 ?_
      refine lv_bipush (v := 116) hx hb dX5_isOn_25 (by decide) ?_
      refine lv_iload_n hx hb dX5_isOn_27 rfl (lv_at hl 0 rfl) ?_
      refine ol_top (y := nI (cN (r (5 + q)))) (hsh q hq c_10).2 ?_
      refine ol_iadd hx hb 116 (cN (r (5 + q))) dX5_isOn_28 ?_
      refine ol_iald hx hb hE.1 hP 1 0 rfl rfl (116 + (cN (r (5 + q)))) (by omega) (by decide) dX5_isOn_29 ?_
      refine lv_if_ne (tgt := 37) hx hb dX5_isOn_30 (by decide) (fun c_30 => ?_) (fun c_30 => ?_)
      · refine lv_iconst (v := 0) hx hb dX5_isOn_37 (by decide) ?_
        exact ol_zretR hx hb hr hlocks rfl (by simp [mOn, zB, c_10, Int32.not_lt.mp c_10, c_18, c_30]) dX5_isOn_38
      · refine lv_iconst (v := 1) hx hb dX5_isOn_33 (by decide) ?_
        refine lv_goto (tgt := 38) hx hb dX5_isOn_34 (by decide) ?_
        exact ol_zretR hx hb hr hlocks rfl (by simp [mOn, zB, c_10, Int32.not_lt.mp c_10, c_18, c_30]) dX5_isOn_38
set_option maxHeartbeats 4000000 in
set_option maxRecDepth 100000 in
theorem mr_size (l : Launch) (G : oG) (v : UInt32)   : Met l yX5_size (ws_ yX5_size cX5_size 1 (some .float)) ({ frames := 0, cells := 0, slots := 0, locals := 0 }) (oPc G [.float v] (fun _ => True)) (oR (some (.float (fsz v)))) 0 0 (fun _ => False) := by
  refine Met.ofW (cc := cX5_size) (maxL := 1) (ret := (some .float)) (by decide) rfl ?_
  intro p e s m args below meth c s₁ B hml hv
  obtain ⟨rfl, hP, hE⟩ := hv
  have hx := B.exec
  have hb := B.bytes
  have hr := B.returns
  have hts := atoms_spec (ws := ws_ yX5_size cX5_size 1 (some .float)) B.pre
  have hts : ∀ w ∈ lw_all, w.before _ s = true := fun w h => hts w (List.mem_cons_of_mem _ h)
  have hown : s.vm.findClass RX5 = some m.cls := findClass_of_methodNamed B.named
  have hlocks := B.notSynchronized
  have hl := lv_entry ([.float v]) (n := 1) (Nat.le_of_ble_eq_true rfl)
  rw [lg_entry_eq]
  generalize (lg_sl ([.float v]) ++ List.replicate (1 - (lg_sl ([.float v])).length) Slot.unset).toArray = ls at hl ⊢
  replace hl : lv_has ls 1 [(0, .float v)] := hl
  refine lv_fload_n hx hb dX5_size_0 rfl (lv_at hl 0 rfl) ?_
  refine lv_fconst0 hx hb dX5_size_1 ?_
  refine lv_fcmp hx hb dX5_size_2 ?_
  refine lv_if_ge (tgt := 11) hx hb dX5_size_3 (by decide) (fun c_3 => ?_) (fun c_3 => ?_)
  · refine lv_fload_n hx hb dX5_size_11 rfl (lv_at hl 0 rfl) ?_
    exact ol_fretR hx hb hr hlocks rfl (by simp [fsz, flt, zB, c_3, Int32.not_lt.mpr c_3]) dX5_size_12
  · refine lv_fload_n hx hb dX5_size_6 rfl (lv_at hl 0 rfl) ?_
    refine lv_fneg hx hb dX5_size_7 ?_
    refine lv_goto (tgt := 12) hx hb dX5_size_8 (by decide) ?_
    exact ol_fretR hx hb hr hlocks rfl (by simp [fsz, flt, zB, c_3, Int32.not_le.mp c_3]) dX5_size_12
set_option maxHeartbeats 4000000 in
set_option maxRecDepth 100000 in
theorem mr_off (l : Launch) (G : oG) (ad : Nat → Nat) (iS : Int32) (iA : Int32) (iL : Int32) (iT : Int32) (iC : Int32) (iR : Int32) (r : Nat → Int32) (pr : Nat → Int32) (ar : Nat → Int32) (br : Nat → Int32) (f : Nat → UInt32) (pf : Nat → UInt32) (af : Nat → UInt32) (bf : Nat → UInt32) (tx : Nat → Int32) (q : Nat) (x : Int32) (v : Int32)  (hq : q < 2) (hm : mFo f) : Met l yX5_off (ws_ yX5_off cX5_off 8 (some .float)) ({ frames := 1, cells := 0, slots := 0, locals := 23 }) (oPc G [.ref (ad 0), .int (nI q), .int x, .int v] (fun H => va_P G.1 cl0 (mW G ad iS iA iL iT iC iR r pr ar br f pf af bf tx) H)) (oR (some (.float (mOff r f q x v)))) 0 0 (fun _ => False) := by
  refine Met.ofW (cc := cX5_off) (maxL := 8) (ret := (some .float)) (by decide) rfl ?_
  intro p e s m args below meth c s₁ B hml hv
  obtain ⟨rfl, hP, hE⟩ := hv
  have hx := B.exec
  have hb := B.bytes
  have hr := B.returns
  have hts := atoms_spec (ws := ws_ yX5_off cX5_off 8 (some .float)) B.pre
  have hts : ∀ w ∈ lw_all, w.before _ s = true := fun w h => hts w (List.mem_cons_of_mem _ h)
  have hown : s.vm.findClass RX5 = some m.cls := findClass_of_methodNamed B.named
  have hlocks := B.notSynchronized
  have hl := lv_entry ([.ref (ad 0), .int (nI q), .int x, .int v]) (n := 8) (Nat.le_of_ble_eq_true rfl)
  rw [lg_entry_eq]
  generalize (lg_sl ([.ref (ad 0), .int (nI q), .int x, .int v]) ++ List.replicate (8 - (lg_sl ([.ref (ad 0), .int (nI q), .int x, .int v])).length) Slot.unset).toArray = ls at hl ⊢
  replace hl : lv_has ls 8 [(0, .ref (ad 0)), (1, .int (nI q)), (2, .int x), (3, .int v)] := hl
  refine lv_aload_n hx hb dX5_off_0 rfl (lv_at hl 0 rfl) ?_
  refine va_get (D := G.1) (ci := 12) (v := .ref (ad 5)) (C := RX5) (T := TX5) (N := 15) hx hb hts in_X5 hown hE.1 hP 0 rfl rfl 4 (by decide) (hts _ q1139) (fun _ h9 => h9) rfl dX5_off_1 ?_
  refine lv_iconst (v := 0) hx hb dX5_off_4 (by decide) ?_
  refine lv_iload_n hx hb dX5_off_5 rfl (lv_at hl 1 rfl) ?_
  refine ol_iadd hx hb 0 q dX5_off_6 ?_
  refine ol_fald hx hb hE.1 hP 5 2 rfl rfl (0 + q) (by omega) (by decide) dX5_off_7 ?_
  refine lv_fstore (lv' := [(4, .float (f (0 + q))), (0, .ref (ad 0)), (1, .int (nI q)), (2, .int x), (3, .int v)]) hx hb dX5_off_8 hl (by decide) rfl (fun ls hl => ?_)
  refine lv_iload_n hx hb dX5_off_10 rfl (lv_at hl 4 rfl) ?_
  refine lv_i2f hx hb dX5_off_11 ?_
  refine lv_fload hx hb dX5_off_12 (lv_at hl 0 rfl) ?_
  refine lv_fsub hx hb dX5_off_14 (fk_sub _ (hm q hq).1) ?_
  refine ol_cR (st1 := [.float (fsz (FP.fsub (FP.i2f v) (f (0 + q))))]) (va_runS (As := [.float (FP.fsub (FP.i2f v) (f (0 + q)))]) (rest := []) ⟨hx, hb, hml, hown, hts⟩ (mr_size l G (FP.fsub (FP.i2f v) (f (0 + q))) ) (va_cwS 1 hts (lw_S q1312 q1313 q73 q1314) rfl rfl rfl (by decide +kernel) ⟨Nat.le_of_ble_eq_true rfl, Nat.le_of_ble_eq_true rfl⟩) (oPc.preS hE trivial) rfl rfl hl.1 rfl (lv_room (Nat.le_of_ble_eq_true rfl)) dX5_off_15 ⟨Nat.le_of_ble_eq_true rfl, Nat.le_of_ble_eq_true rfl⟩) rfl ?_
  refine lv_fload hx hb dX5_off_18 (lv_at hl 0 rfl) ?_
  refine lv_fdiv hx hb dX5_off_20 (fk_div _ (hm q hq).1) ?_
  refine lv_fstore (lv' := [(5, .float (FP.fdiv (fsz (FP.fsub (FP.i2f v) (f (0 + q)))) (f (0 + q)))), (4, .float (f (0 + q))), (0, .ref (ad 0)), (1, .int (nI q)), (2, .int x), (3, .int v)]) hx hb dX5_off_21 hl (by decide) rfl (fun ls hl => ?_)
  refine lv_aload_n hx hb dX5_off_23 rfl (lv_at hl 2 rfl) ?_
  refine lv_iload_n hx hb dX5_off_24 rfl (lv_at hl 3 rfl) ?_
  refine lv_iload_n hx hb dX5_off_25 rfl (lv_at hl 4 rfl) ?_
  refine ol_cR (st1 := [.int (mGap r q x)]) (va_runV (As := [.int (nI q), .int x]) (rest := []) ⟨hx, hb, hml, hown, hts⟩ (mr_gap l G ad iS iA iL iT iC iR r pr ar br f pf af bf tx q x (by omega)) (cwV 2 hts (lw_V q1315 q1317 qs40 q73 q1318) rfl rfl rfl (by decide +kernel) ⟨Nat.le_of_ble_eq_true rfl, Nat.le_of_ble_eq_true rfl⟩) (oPc.preV hE (hE.recv (ci := 12) (hP 0 _ rfl) rfl) hP) rfl rfl hl.1 rfl (lv_room (Nat.le_of_ble_eq_true rfl)) dX5_off_26 ⟨Nat.le_of_ble_eq_true rfl, Nat.le_of_ble_eq_true rfl⟩) rfl ?_
  refine lv_istore (lv' := [(6, .int (mGap r q x)), (5, .float (FP.fdiv (fsz (FP.fsub (FP.i2f v) (f (0 + q)))) (f (0 + q)))), (4, .float (f (0 + q))), (0, .ref (ad 0)), (1, .int (nI q)), (2, .int x), (3, .int v)]) hx hb dX5_off_29 hl (by decide) rfl (fun ls hl => ?_)
  refine lv_iload hx hb dX5_off_31 (lv_at hl 0 rfl) ?_
  refine lv_if_ge (tgt := 39) hx hb dX5_off_33 (by decide) (fun c_33 => ?_) (fun c_33 => ?_)
  · refine lv_aload_n hx hb dX5_off_39 rfl (lv_at hl 3 rfl) ?_
    refine va_get (D := G.1) (ci := 12) (v := .ref (ad 5)) (C := RX5) (T := TX5) (N := 15) hx hb hts in_X5 hown hE.1 hP 0 rfl rfl 4 (by decide) (hts _ q1139) (fun _ h9 => h9) rfl dX5_off_40 ?_
    refine lv_iconst (v := 2) hx hb dX5_off_43 (by decide) ?_
    refine lv_iload_n hx hb dX5_off_44 rfl (lv_at hl 4 rfl) ?_
    refine ol_iadd hx hb 2 q dX5_off_45 ?_
    refine ol_fald hx hb hE.1 hP 5 2 rfl rfl (2 + q) (by omega) (by decide) dX5_off_46 ?_
    refine lv_fstore (lv' := [(7, .float (f (2 + q))), (6, .int (mGap r q x)), (5, .float (FP.fdiv (fsz (FP.fsub (FP.i2f v) (f (0 + q)))) (f (0 + q)))), (4, .float (f (0 + q))), (0, .ref (ad 0)), (1, .int (nI q)), (2, .int x), (3, .int v)]) hx hb dX5_off_47 hl (by decide) rfl (fun ls hl => ?_)
    refine lv_fload hx hb dX5_off_49 (lv_at hl 2 rfl) ?_
    refine lv_iload hx hb dX5_off_51 (lv_at hl 1 rfl) ?_
    refine lv_i2f hx hb dX5_off_53 ?_
    refine lv_fload hx hb dX5_off_54 (lv_at hl 0 rfl) ?_
    refine lv_fsub hx hb dX5_off_56 (fk_sub _ (hm q hq).2) ?_
    refine ol_cR (st1 := [.float (fsz (FP.fsub (FP.i2f (mGap r q x)) (f (2 + q)))), .float (FP.fdiv (fsz (FP.fsub (FP.i2f v) (f (0 + q)))) (f (0 + q)))]) (va_runS (As := [.float (FP.fsub (FP.i2f (mGap r q x)) (f (2 + q)))]) (rest := [.float (FP.fdiv (fsz (FP.fsub (FP.i2f v) (f (0 + q)))) (f (0 + q)))]) ⟨hx, hb, hml, hown, hts⟩ (mr_size l G (FP.fsub (FP.i2f (mGap r q x)) (f (2 + q))) ) (va_cwS 1 hts (lw_S q1312 q1313 q73 q1314) rfl rfl rfl (by decide +kernel) ⟨Nat.le_of_ble_eq_true rfl, Nat.le_of_ble_eq_true rfl⟩) (oPc.preS hE trivial) rfl rfl hl.1 rfl (lv_room (Nat.le_of_ble_eq_true rfl)) dX5_off_57 ⟨Nat.le_of_ble_eq_true rfl, Nat.le_of_ble_eq_true rfl⟩) rfl ?_
    refine lv_fload hx hb dX5_off_60 (lv_at hl 0 rfl) ?_
    refine lv_fdiv hx hb dX5_off_62 (fk_div _ (hm q hq).2) ?_
    refine lv_ldcf hx hb hown (hts _ q1129) dX5_off_63 ?_
    refine lv_fmul hx hb dX5_off_65 (fk_half _ (hm q hq).2) ?_
    refine lv_fadd hx hb dX5_off_66 (fk_add _ _ (hm q hq).1 (hm q hq).2) ?_
    exact ol_fretR hx hb hr hlocks rfl (by simp [mOff, offF, offT, zB, c_33, Int32.not_lt.mpr c_33]) dX5_off_67
  · refine lv_fload hx hb dX5_off_36 (lv_at hl 1 rfl) ?_
    exact ol_fretR hx hb hr hlocks rfl (by simp [mOff, offF, offT, zB, c_33, Int32.not_le.mp c_33]) dX5_off_38
set_option maxHeartbeats 4000000 in
set_option maxRecDepth 100000 in
theorem mr_learned (l : Launch) (G : oG) (ad : Nat → Nat) (iS : Int32) (iA : Int32) (iL : Int32) (iT : Int32) (iC : Int32) (iR : Int32) (r : Nat → Int32) (pr : Nat → Int32) (ar : Nat → Int32) (br : Nat → Int32) (f : Nat → UInt32) (pf : Nat → UInt32) (af : Nat → UInt32) (bf : Nat → UInt32) (tx : Nat → Int32) (m0 : UInt32) (v : Int32)  (hm : fOK m0) (hrt : fR (f 6)) : Met l yX5_learned (ws_ yX5_learned cX5_learned 4 (some .float)) ({ frames := 0, cells := 0, slots := 0, locals := 0 }) (oPc G [.ref (ad 0), .float m0, .int v] (fun H => va_P G.1 cl0 (mW G ad iS iA iL iT iC iR r pr ar br f pf af bf tx) H)) (oR (some (.float (lrnF m0 (f 6) v)))) 0 0 (fun _ => False) := by
  refine Met.ofW (cc := cX5_learned) (maxL := 4) (ret := (some .float)) (by decide) rfl ?_
  intro p e s m args below meth c s₁ B hml hv
  obtain ⟨rfl, hP, hE⟩ := hv
  have hx := B.exec
  have hb := B.bytes
  have hr := B.returns
  have hts := atoms_spec (ws := ws_ yX5_learned cX5_learned 4 (some .float)) B.pre
  have hts : ∀ w ∈ lw_all, w.before _ s = true := fun w h => hts w (List.mem_cons_of_mem _ h)
  have hown : s.vm.findClass RX5 = some m.cls := findClass_of_methodNamed B.named
  have hlocks := B.notSynchronized
  have hl := lv_entry ([.ref (ad 0), .float m0, .int v]) (n := 4) (Nat.le_of_ble_eq_true rfl)
  rw [lg_entry_eq]
  generalize (lg_sl ([.ref (ad 0), .float m0, .int v]) ++ List.replicate (4 - (lg_sl ([.ref (ad 0), .float m0, .int v])).length) Slot.unset).toArray = ls at hl ⊢
  replace hl : lv_has ls 4 [(0, .ref (ad 0)), (1, .float m0), (2, .int v)] := hl
  refine lv_fload_n hx hb dX5_learned_0 rfl (lv_at hl 1 rfl) ?_
  refine lv_iload_n hx hb dX5_learned_1 rfl (lv_at hl 2 rfl) ?_
  refine lv_i2f hx hb dX5_learned_2 ?_
  refine lv_fload_n hx hb dX5_learned_3 rfl (lv_at hl 1 rfl) ?_
  refine lv_fsub hx hb dX5_learned_4 (fk_sub _ hm) ?_
  refine lv_aload_n hx hb dX5_learned_5 rfl (lv_at hl 0 rfl) ?_
  refine va_get (D := G.1) (ci := 12) (v := .ref (ad 5)) (C := RX5) (T := TX5) (N := 15) hx hb hts in_X5 hown hE.1 hP 0 rfl rfl 4 (by decide) (hts _ q1139) (fun _ h9 => h9) rfl dX5_learned_6 ?_
  refine lv_bipush (v := 6) hx hb dX5_learned_9 (by decide) ?_
  refine ol_fald hx hb hE.1 hP 5 2 rfl rfl 6 (by decide) (by decide) dX5_learned_11 ?_
  refine lv_fmul hx hb dX5_learned_12 (fk_lm _ hm hrt) ?_
  refine lv_fadd hx hb dX5_learned_13 (fk_la _ hm hrt) ?_
  refine lv_fstore_n (lv' := [(3, .float (FP.fadd m0 (FP.fmul (FP.fsub (FP.i2f v) m0) (f 6)))), (0, .ref (ad 0)), (1, .float m0), (2, .int v)]) hx hb dX5_learned_14 rfl hl (by decide) rfl (fun ls hl => ?_)
  refine lv_fload_n hx hb dX5_learned_15 rfl (lv_at hl 0 rfl) ?_
  refine lv_ldcf hx hb hown (hts _ q1129) dX5_learned_16 ?_
  refine lv_fcmp hx hb dX5_learned_18 ?_
  refine lv_if_ge (tgt := 27) hx hb dX5_learned_19 (by decide) (fun c_19 => ?_) (fun c_19 => ?_)
  · refine lv_fload_n hx hb dX5_learned_27 rfl (lv_at hl 0 rfl) ?_
    exact ol_fretR hx hb hr hlocks rfl (by simp [lrnF, lrn0, flt, zB, c_19, Int32.not_lt.mpr c_19]) dX5_learned_28
  · refine lv_ldcf hx hb hown (hts _ q1129) dX5_learned_22 ?_
    refine lv_goto (tgt := 28) hx hb dX5_learned_24 (by decide) ?_
    exact ol_fretR hx hb hr hlocks rfl (by simp [lrnF, lrn0, flt, zB, c_19, Int32.not_le.mp c_19]) dX5_learned_28
set_option maxHeartbeats 4000000 in
set_option maxRecDepth 100000 in
theorem mr_judged (l : Launch) (G : oG) (ad : Nat → Nat) (iS : Int32) (iA : Int32) (iL : Int32) (iT : Int32) (iC : Int32) (iR : Int32) (r : Nat → Int32) (pr : Nat → Int32) (ar : Nat → Int32) (br : Nat → Int32) (f : Nat → UInt32) (pf : Nat → UInt32) (af : Nat → UInt32) (bf : Nat → UInt32) (tx : Nat → Int32) (k : Nat)  (hk : k < 48) (hm : mFo f) : Met l yX5_judged (ws_ yX5_judged cX5_judged 9 (some .int)) ({ frames := 2, cells := 0, slots := 0, locals := 50 }) (oPc G [.ref (ad 0), .int (nI k)] (fun H => va_P G.1 cl0 (mW G ad iS iA iL iT iC iR r pr ar br f pf af bf tx) H)) (oR (some (.int (mJd r f k)))) 0 0 (fun _ => False) := by
  refine Met.ofW (cc := cX5_judged) (maxL := 9) (ret := (some .int)) (by decide) rfl ?_
  intro p e s m args below meth c s₁ B hml hv
  obtain ⟨rfl, hP, hE⟩ := hv
  have hx := B.exec
  have hb := B.bytes
  have hr := B.returns
  have hts := atoms_spec (ws := ws_ yX5_judged cX5_judged 9 (some .int)) B.pre
  have hts : ∀ w ∈ lw_all, w.before _ s = true := fun w h => hts w (List.mem_cons_of_mem _ h)
  have hown : s.vm.findClass RX5 = some m.cls := findClass_of_methodNamed B.named
  have hlocks := B.notSynchronized
  have hl := lv_entry ([.ref (ad 0), .int (nI k)]) (n := 9) (Nat.le_of_ble_eq_true rfl)
  rw [lg_entry_eq]
  generalize (lg_sl ([.ref (ad 0), .int (nI k)]) ++ List.replicate (9 - (lg_sl ([.ref (ad 0), .int (nI k)])).length) Slot.unset).toArray = ls at hl ⊢
  replace hl : lv_has ls 9 [(0, .ref (ad 0)), (1, .int (nI k))] := hl
  refine lv_aload_n hx hb dX5_judged_0 rfl (lv_at hl 0 rfl) ?_
  refine lv_iload_n hx hb dX5_judged_1 rfl (lv_at hl 1 rfl) ?_
  refine ol_cR (st1 := [.int (mSh r (nI k))]) (va_runV (As := [.int (nI k)]) (rest := []) ⟨hx, hb, hml, hown, hts⟩ (mr_shiftOf l G ad iS iA iL iT iC iR r pr ar br f pf af bf tx (nI k) ) (cwV 1 hts (lw_V q1233 q1235 qs29 q73 q1236) rfl rfl rfl (by decide +kernel) ⟨Nat.le_of_ble_eq_true rfl, Nat.le_of_ble_eq_true rfl⟩) (oPc.preV hE (hE.recv (ci := 12) (hP 0 _ rfl) rfl) hP) rfl rfl hl.1 rfl (lv_room (Nat.le_of_ble_eq_true rfl)) dX5_judged_2 ⟨Nat.le_of_ble_eq_true rfl, Nat.le_of_ble_eq_true rfl⟩) rfl ?_
  refine lv_istore_n (lv' := [(2, .int (mSh r (nI k))), (0, .ref (ad 0)), (1, .int (nI k))]) hx hb dX5_judged_5 rfl hl (by decide) rfl (fun ls hl => ?_)
  refine lv_aload_n hx hb dX5_judged_6 rfl (lv_at hl 1 rfl) ?_
  refine va_get (D := G.1) (ci := 12) (v := .ref (ad 1)) (C := RX5) (T := TX5) (N := 15) hx hb hts in_X5 hown hE.1 hP 0 rfl rfl 0 (by decide) (hts _ q1135) (fun _ h9 => h9) rfl dX5_judged_7 ?_
  refine lv_bipush (v := 116) hx hb dX5_judged_10 (by decide) ?_
  refine lv_iload_n hx hb dX5_judged_12 rfl (lv_at hl 2 rfl) ?_
  refine ol_iadd hx hb 116 k dX5_judged_13 ?_
  refine ol_iald hx hb hE.1 hP 1 0 rfl rfl (116 + k) (by omega) (by decide) dX5_judged_14 ?_
  refine lv_iconst (v := 1) hx hb dX5_judged_15 (by decide) ?_
  refine lv_icmp_ne (tgt := 23) hx hb dX5_judged_16 (by decide) (fun c_16 => ?_) (fun c_16 => ?_)
  · refine lv_iconst (v := 0) hx hb dX5_judged_23 (by decide) ?_
    refine lv_istore_n (lv' := [(3, .int 0), (2, .int (mSh r (nI k))), (0, .ref (ad 0)), (1, .int (nI k))]) hx hb dX5_judged_24 rfl hl (by decide) rfl (fun ls hl => ?_)
    refine lv_iload_n hx hb dX5_judged_25 rfl (lv_at hl 1 rfl) ?_
    refine lv_if_lt (tgt := 39) hx hb dX5_judged_26 (by decide) (fun c_26 => ?_) (fun c_26 => ?_)
    · refine lv_aload_n hx hb dX5_judged_39 rfl (lv_at hl 2 rfl) ?_
      refine va_get (D := G.1) (ci := 12) (v := .ref (ad 1)) (C := RX5) (T := TX5) (N := 15) hx hb hts in_X5 hown hE.1 hP 0 rfl rfl 0 (by decide) (hts _ q1135) (fun _ h9 => h9) rfl dX5_judged_40 ?_
      refine lv_bipush (v := 68) hx hb dX5_judged_43 (by decide) ?_
      refine lv_iload_n hx hb dX5_judged_45 rfl (lv_at hl 3 rfl) ?_
      refine ol_iadd hx hb 68 k dX5_judged_46 ?_
      refine ol_iald hx hb hE.1 hP 1 0 rfl rfl (68 + k) (by omega) (by decide) dX5_judged_47 ?_
      refine lv_istore (lv' := [(4, .int (r (68 + k))), (3, .int 0), (2, .int (mSh r (nI k))), (0, .ref (ad 0)), (1, .int (nI k))]) hx hb dX5_judged_48 hl (by decide) rfl (fun ls hl => ?_)
      refine lv_aload_n hx hb dX5_judged_50 rfl (lv_at hl 3 rfl) ?_
      refine va_get (D := G.1) (ci := 12) (v := .ref (ad 1)) (C := RX5) (T := TX5) (N := 15) hx hb hts in_X5 hown hE.1 hP 0 rfl rfl 0 (by decide) (hts _ q1135) (fun _ h9 => h9) rfl dX5_judged_51 ?_
      refine lv_iconst (v := 2) hx hb dX5_judged_54 (by decide) ?_
      refine ol_iald hx hb hE.1 hP 1 0 rfl rfl 2 (by decide) (by decide) dX5_judged_55 ?_
      refine lv_iload hx hb dX5_judged_56 (lv_at hl 0 rfl) ?_
      refine lv_isub hx hb dX5_judged_58 ?_
      refine lv_istore (lv' := [(5, .int ((r 2) - (r (68 + k)))), (4, .int (r (68 + k))), (3, .int 0), (2, .int (mSh r (nI k))), (0, .ref (ad 0)), (1, .int (nI k))]) hx hb dX5_judged_59 hl (by decide) rfl (fun ls hl => ?_)
      refine lv_aload_n hx hb dX5_judged_61 rfl (lv_at hl 4 rfl) ?_
      refine lv_iconst (v := 0) hx hb dX5_judged_62 (by decide) ?_
      refine lv_iload hx hb dX5_judged_63 (lv_at hl 1 rfl) ?_
      refine lv_iload hx hb dX5_judged_65 (lv_at hl 0 rfl) ?_
      refine ol_cR (st1 := [.float (mOff r f 0 (r (68 + k)) ((r 2) - (r (68 + k))))]) (va_runV (As := [.int 0, .int (r (68 + k)), .int ((r 2) - (r (68 + k)))]) (rest := []) ⟨hx, hb, hml, hown, hts⟩ (mr_off l G ad iS iA iL iT iC iR r pr ar br f pf af bf tx 0 (r (68 + k)) ((r 2) - (r (68 + k))) (by omega) hm) (cwV 3 hts (lw_V q1308 q1310 qs39 q73 q1311) rfl rfl rfl (by decide +kernel) ⟨Nat.le_of_ble_eq_true rfl, Nat.le_of_ble_eq_true rfl⟩) (oPc.preV hE (hE.recv (ci := 12) (hP 0 _ rfl) rfl) hP) rfl rfl hl.1 rfl (lv_room (Nat.le_of_ble_eq_true rfl)) dX5_judged_67 ⟨Nat.le_of_ble_eq_true rfl, Nat.le_of_ble_eq_true rfl⟩) rfl ?_
      refine lv_fstore (lv' := [(6, .float (mOff r f 0 (r (68 + k)) ((r 2) - (r (68 + k))))), (5, .int ((r 2) - (r (68 + k)))), (4, .int (r (68 + k))), (3, .int 0), (2, .int (mSh r (nI k))), (0, .ref (ad 0)), (1, .int (nI k))]) hx hb dX5_judged_70 hl (by decide) rfl (fun ls hl => ?_)
      refine lv_aload_n hx hb dX5_judged_72 rfl (lv_at hl 5 rfl) ?_
      refine lv_iconst (v := 1) hx hb dX5_judged_73 (by decide) ?_
      refine lv_iload hx hb dX5_judged_74 (lv_at hl 2 rfl) ?_
      refine lv_iload hx hb dX5_judged_76 (lv_at hl 1 rfl) ?_
      refine ol_cR (st1 := [.float (mOff r f 1 (r (68 + k)) ((r 2) - (r (68 + k))))]) (va_runV (As := [.int 1, .int (r (68 + k)), .int ((r 2) - (r (68 + k)))]) (rest := []) ⟨hx, hb, hml, hown, hts⟩ (mr_off l G ad iS iA iL iT iC iR r pr ar br f pf af bf tx 1 (r (68 + k)) ((r 2) - (r (68 + k))) (by omega) hm) (cwV 3 hts (lw_V q1308 q1310 qs39 q73 q1311) rfl rfl rfl (by decide +kernel) ⟨Nat.le_of_ble_eq_true rfl, Nat.le_of_ble_eq_true rfl⟩) (oPc.preV hE (hE.recv (ci := 12) (hP 0 _ rfl) rfl) hP) rfl rfl hl.1 rfl (lv_room (Nat.le_of_ble_eq_true rfl)) dX5_judged_78 ⟨Nat.le_of_ble_eq_true rfl, Nat.le_of_ble_eq_true rfl⟩) rfl ?_
      refine lv_fstore (lv' := [(7, .float (mOff r f 1 (r (68 + k)) ((r 2) - (r (68 + k))))), (6, .float (mOff r f 0 (r (68 + k)) ((r 2) - (r (68 + k))))), (5, .int ((r 2) - (r (68 + k)))), (4, .int (r (68 + k))), (3, .int 0), (2, .int (mSh r (nI k))), (0, .ref (ad 0)), (1, .int (nI k))]) hx hb dX5_judged_81 hl (by decide) rfl (fun ls hl => ?_)
      refine lv_fload hx hb dX5_judged_83 (lv_at hl 0 rfl) ?_
      refine lv_fload hx hb dX5_judged_85 (lv_at hl 1 rfl) ?_
      refine lv_fcmp hx hb dX5_judged_87 ?_
      refine lv_if_ge (tgt := 95) hx hb dX5_judged_88 (by decide) (fun c_88 => ?_) (fun c_88 => ?_)
      · refine lv_iconst (v := 0) hx hb dX5_judged_95 (by decide) ?_
        refine lv_istore (lv' := [(8, .int 0), (7, .float (mOff r f 1 (r (68 + k)) ((r 2) - (r (68 + k))))), (6, .float (mOff r f 0 (r (68 + k)) ((r 2) - (r (68 + k))))), (5, .int ((r 2) - (r (68 + k)))), (4, .int (r (68 + k))), (3, .int 0), (2, .int (mSh r (nI k))), (0, .ref (ad 0)), (1, .int (nI k))]) hx hb dX5_judged_96 hl (by decide) rfl (fun ls hl => ?_)
        refine lv_iload_n hx hb dX5_judged_98 rfl (lv_at hl 5 rfl) ?_
        refine ol_if_eq hx hb 0 (by omega) (tgt := 131) dX5_judged_99 (by decide) (fun c_99 => ?_) (fun c_99 => ?_)
        · refine lv_fload hx hb dX5_judged_131 (lv_at hl 2 rfl) ?_
          refine lv_fload hx hb dX5_judged_133 (lv_at hl 1 rfl) ?_
          refine lv_fsub hx hb dX5_judged_135 (fk_diff _ _ _ _ (hm 0 (by decide)).1 (hm 0 (by decide)).2 (hm 1 (by decide)).1 (hm 1 (by decide)).2) ?_
          refine ol_cR (st1 := [.float (fsz (FP.fsub (mOff r f 0 (r (68 + k)) ((r 2) - (r (68 + k)))) (mOff r f 1 (r (68 + k)) ((r 2) - (r (68 + k))))))]) (va_runS (As := [.float (FP.fsub (mOff r f 0 (r (68 + k)) ((r 2) - (r (68 + k)))) (mOff r f 1 (r (68 + k)) ((r 2) - (r (68 + k)))))]) (rest := []) ⟨hx, hb, hml, hown, hts⟩ (mr_size l G (FP.fsub (mOff r f 0 (r (68 + k)) ((r 2) - (r (68 + k)))) (mOff r f 1 (r (68 + k)) ((r 2) - (r (68 + k))))) ) (va_cwS 1 hts (lw_S q1312 q1313 q73 q1314) rfl rfl rfl (by decide +kernel) ⟨Nat.le_of_ble_eq_true rfl, Nat.le_of_ble_eq_true rfl⟩) (oPc.preS hE trivial) rfl rfl hl.1 rfl (lv_room (Nat.le_of_ble_eq_true rfl)) dX5_judged_136 ⟨Nat.le_of_ble_eq_true rfl, Nat.le_of_ble_eq_true rfl⟩) rfl ?_
          refine lv_aload_n hx hb dX5_judged_139 rfl (lv_at hl 7 rfl) ?_
          refine va_get (D := G.1) (ci := 12) (v := .ref (ad 5)) (C := RX5) (T := TX5) (N := 15) hx hb hts in_X5 hown hE.1 hP 0 rfl rfl 4 (by decide) (hts _ q1139) (fun _ h9 => h9) rfl dX5_judged_140 ?_
          refine lv_iconst (v := 4) hx hb dX5_judged_143 (by decide) ?_
          refine ol_fald hx hb hE.1 hP 5 2 rfl rfl 4 (by decide) (by decide) dX5_judged_144 ?_
          refine lv_fcmp hx hb dX5_judged_145 ?_
          refine lv_if_ge (tgt := 167) hx hb dX5_judged_146 (by decide) (fun c_146 => ?_) (fun c_146 => ?_)
          · refine lv_iload hx hb dX5_judged_167 (lv_at hl 0 rfl) ?_
            exact ol_iretR hx hb hr hlocks rfl (by simp [mJd, flt, fle, zB, c_16, c_26, Int32.not_le.mpr c_26, c_88, Int32.not_lt.mpr c_88, c_99, c_146, Int32.not_lt.mpr c_146]) dX5_judged_169
          · refine lv_aload_n hx hb dX5_judged_149 rfl (lv_at hl 7 rfl) ?_
            refine va_get (D := G.1) (ci := 12) (v := .ref (ad 1)) (C := RX5) (T := TX5) (N := 15) hx hb hts in_X5 hown hE.1 hP 0 rfl rfl 0 (by decide) (hts _ q1135) (fun _ h9 => h9) rfl dX5_judged_150 ?_
            refine lv_bipush (v := 16) hx hb dX5_judged_153 (by decide) ?_
            refine ol_iald hx hb hE.1 hP 1 0 rfl rfl 16 (by decide) (by decide) dX5_judged_155 ?_
            refine lv_bipush (v := 20) hx hb dX5_judged_156 (by decide) ?_
            refine lv_icmp_ne (tgt := 165) hx hb dX5_judged_158 (by decide) (fun c_158 => ?_) (fun c_158 => ?_)
            · refine lv_iconst (v := 3) hx hb dX5_judged_165 (by decide) ?_
              exact ol_iretR hx hb hr hlocks rfl (by simp [mJd, flt, fle, zB, c_16, c_26, Int32.not_le.mpr c_26, c_88, Int32.not_lt.mpr c_88, c_99, c_146, Int32.not_le.mp c_146, c_158]) dX5_judged_166
            · refine lv_iconst (v := 2) hx hb dX5_judged_161 (by decide) ?_
              refine lv_goto (tgt := 166) hx hb dX5_judged_162 (by decide) ?_
              exact ol_iretR hx hb hr hlocks rfl (by simp [mJd, flt, fle, zB, c_16, c_26, Int32.not_le.mpr c_26, c_88, Int32.not_lt.mpr c_88, c_99, c_146, Int32.not_le.mp c_146, c_158]) dX5_judged_166
        · exact absurd c_99 (by decide)
      · refine lv_iconst (v := 1) hx hb dX5_judged_91 (by decide) ?_
        refine lv_goto (tgt := 96) hx hb dX5_judged_92 (by decide) ?_
        refine lv_istore (lv' := [(8, .int 1), (7, .float (mOff r f 1 (r (68 + k)) ((r 2) - (r (68 + k))))), (6, .float (mOff r f 0 (r (68 + k)) ((r 2) - (r (68 + k))))), (5, .int ((r 2) - (r (68 + k)))), (4, .int (r (68 + k))), (3, .int 0), (2, .int (mSh r (nI k))), (0, .ref (ad 0)), (1, .int (nI k))]) hx hb dX5_judged_96 hl (by decide) rfl (fun ls hl => ?_)
        refine lv_iload_n hx hb dX5_judged_98 rfl (lv_at hl 5 rfl) ?_
        refine ol_if_eq hx hb 0 (by omega) (tgt := 131) dX5_judged_99 (by decide) (fun c_99 => ?_) (fun c_99 => ?_)
        · refine lv_fload hx hb dX5_judged_131 (lv_at hl 2 rfl) ?_
          refine lv_fload hx hb dX5_judged_133 (lv_at hl 1 rfl) ?_
          refine lv_fsub hx hb dX5_judged_135 (fk_diff _ _ _ _ (hm 0 (by decide)).1 (hm 0 (by decide)).2 (hm 1 (by decide)).1 (hm 1 (by decide)).2) ?_
          refine ol_cR (st1 := [.float (fsz (FP.fsub (mOff r f 0 (r (68 + k)) ((r 2) - (r (68 + k)))) (mOff r f 1 (r (68 + k)) ((r 2) - (r (68 + k))))))]) (va_runS (As := [.float (FP.fsub (mOff r f 0 (r (68 + k)) ((r 2) - (r (68 + k)))) (mOff r f 1 (r (68 + k)) ((r 2) - (r (68 + k)))))]) (rest := []) ⟨hx, hb, hml, hown, hts⟩ (mr_size l G (FP.fsub (mOff r f 0 (r (68 + k)) ((r 2) - (r (68 + k)))) (mOff r f 1 (r (68 + k)) ((r 2) - (r (68 + k))))) ) (va_cwS 1 hts (lw_S q1312 q1313 q73 q1314) rfl rfl rfl (by decide +kernel) ⟨Nat.le_of_ble_eq_true rfl, Nat.le_of_ble_eq_true rfl⟩) (oPc.preS hE trivial) rfl rfl hl.1 rfl (lv_room (Nat.le_of_ble_eq_true rfl)) dX5_judged_136 ⟨Nat.le_of_ble_eq_true rfl, Nat.le_of_ble_eq_true rfl⟩) rfl ?_
          refine lv_aload_n hx hb dX5_judged_139 rfl (lv_at hl 7 rfl) ?_
          refine va_get (D := G.1) (ci := 12) (v := .ref (ad 5)) (C := RX5) (T := TX5) (N := 15) hx hb hts in_X5 hown hE.1 hP 0 rfl rfl 4 (by decide) (hts _ q1139) (fun _ h9 => h9) rfl dX5_judged_140 ?_
          refine lv_iconst (v := 4) hx hb dX5_judged_143 (by decide) ?_
          refine ol_fald hx hb hE.1 hP 5 2 rfl rfl 4 (by decide) (by decide) dX5_judged_144 ?_
          refine lv_fcmp hx hb dX5_judged_145 ?_
          refine lv_if_ge (tgt := 167) hx hb dX5_judged_146 (by decide) (fun c_146 => ?_) (fun c_146 => ?_)
          · refine lv_iload hx hb dX5_judged_167 (lv_at hl 0 rfl) ?_
            exact ol_iretR hx hb hr hlocks rfl (by simp [mJd, flt, fle, zB, c_16, c_26, Int32.not_le.mpr c_26, c_88, Int32.not_le.mp c_88, c_99, c_146, Int32.not_lt.mpr c_146]) dX5_judged_169
          · refine lv_aload_n hx hb dX5_judged_149 rfl (lv_at hl 7 rfl) ?_
            refine va_get (D := G.1) (ci := 12) (v := .ref (ad 1)) (C := RX5) (T := TX5) (N := 15) hx hb hts in_X5 hown hE.1 hP 0 rfl rfl 0 (by decide) (hts _ q1135) (fun _ h9 => h9) rfl dX5_judged_150 ?_
            refine lv_bipush (v := 16) hx hb dX5_judged_153 (by decide) ?_
            refine ol_iald hx hb hE.1 hP 1 0 rfl rfl 16 (by decide) (by decide) dX5_judged_155 ?_
            refine lv_bipush (v := 20) hx hb dX5_judged_156 (by decide) ?_
            refine lv_icmp_ne (tgt := 165) hx hb dX5_judged_158 (by decide) (fun c_158 => ?_) (fun c_158 => ?_)
            · refine lv_iconst (v := 3) hx hb dX5_judged_165 (by decide) ?_
              exact ol_iretR hx hb hr hlocks rfl (by simp [mJd, flt, fle, zB, c_16, c_26, Int32.not_le.mpr c_26, c_88, Int32.not_le.mp c_88, c_99, c_146, Int32.not_le.mp c_146, c_158]) dX5_judged_166
            · refine lv_iconst (v := 2) hx hb dX5_judged_161 (by decide) ?_
              refine lv_goto (tgt := 166) hx hb dX5_judged_162 (by decide) ?_
              exact ol_iretR hx hb hr hlocks rfl (by simp [mJd, flt, fle, zB, c_16, c_26, Int32.not_le.mpr c_26, c_88, Int32.not_le.mp c_88, c_99, c_146, Int32.not_le.mp c_146, c_158]) dX5_judged_166
        · exact absurd c_99 (by decide)
    · refine lv_iload_n hx hb dX5_judged_29 rfl (lv_at hl 0 rfl) ?_
      refine ol_if_eq hx hb 0 (by omega) (tgt := 37) dX5_judged_30 (by decide) (fun c_30 => ?_) (fun c_30 => ?_)
      · refine lv_iload_n hx hb dX5_judged_37 rfl (lv_at hl 1 rfl) ?_
        exact ol_iretR hx hb hr hlocks rfl (by simp [mJd, flt, fle, zB, c_16, c_26, Int32.not_lt.mp c_26, c_30]) dX5_judged_38
      · exact absurd c_30 (by decide)
  · refine lv_iconst (v := 1) hx hb dX5_judged_19 (by decide) ?_
    refine lv_goto (tgt := 24) hx hb dX5_judged_20 (by decide) ?_
    refine lv_istore_n (lv' := [(3, .int 1), (2, .int (mSh r (nI k))), (0, .ref (ad 0)), (1, .int (nI k))]) hx hb dX5_judged_24 rfl hl (by decide) rfl (fun ls hl => ?_)
    refine lv_iload_n hx hb dX5_judged_25 rfl (lv_at hl 1 rfl) ?_
    refine lv_if_lt (tgt := 39) hx hb dX5_judged_26 (by decide) (fun c_26 => ?_) (fun c_26 => ?_)
    · refine lv_aload_n hx hb dX5_judged_39 rfl (lv_at hl 2 rfl) ?_
      refine va_get (D := G.1) (ci := 12) (v := .ref (ad 1)) (C := RX5) (T := TX5) (N := 15) hx hb hts in_X5 hown hE.1 hP 0 rfl rfl 0 (by decide) (hts _ q1135) (fun _ h9 => h9) rfl dX5_judged_40 ?_
      refine lv_bipush (v := 68) hx hb dX5_judged_43 (by decide) ?_
      refine lv_iload_n hx hb dX5_judged_45 rfl (lv_at hl 3 rfl) ?_
      refine ol_iadd hx hb 68 k dX5_judged_46 ?_
      refine ol_iald hx hb hE.1 hP 1 0 rfl rfl (68 + k) (by omega) (by decide) dX5_judged_47 ?_
      refine lv_istore (lv' := [(4, .int (r (68 + k))), (3, .int 1), (2, .int (mSh r (nI k))), (0, .ref (ad 0)), (1, .int (nI k))]) hx hb dX5_judged_48 hl (by decide) rfl (fun ls hl => ?_)
      refine lv_aload_n hx hb dX5_judged_50 rfl (lv_at hl 3 rfl) ?_
      refine va_get (D := G.1) (ci := 12) (v := .ref (ad 1)) (C := RX5) (T := TX5) (N := 15) hx hb hts in_X5 hown hE.1 hP 0 rfl rfl 0 (by decide) (hts _ q1135) (fun _ h9 => h9) rfl dX5_judged_51 ?_
      refine lv_iconst (v := 2) hx hb dX5_judged_54 (by decide) ?_
      refine ol_iald hx hb hE.1 hP 1 0 rfl rfl 2 (by decide) (by decide) dX5_judged_55 ?_
      refine lv_iload hx hb dX5_judged_56 (lv_at hl 0 rfl) ?_
      refine lv_isub hx hb dX5_judged_58 ?_
      refine lv_istore (lv' := [(5, .int ((r 2) - (r (68 + k)))), (4, .int (r (68 + k))), (3, .int 1), (2, .int (mSh r (nI k))), (0, .ref (ad 0)), (1, .int (nI k))]) hx hb dX5_judged_59 hl (by decide) rfl (fun ls hl => ?_)
      refine lv_aload_n hx hb dX5_judged_61 rfl (lv_at hl 4 rfl) ?_
      refine lv_iconst (v := 0) hx hb dX5_judged_62 (by decide) ?_
      refine lv_iload hx hb dX5_judged_63 (lv_at hl 1 rfl) ?_
      refine lv_iload hx hb dX5_judged_65 (lv_at hl 0 rfl) ?_
      refine ol_cR (st1 := [.float (mOff r f 0 (r (68 + k)) ((r 2) - (r (68 + k))))]) (va_runV (As := [.int 0, .int (r (68 + k)), .int ((r 2) - (r (68 + k)))]) (rest := []) ⟨hx, hb, hml, hown, hts⟩ (mr_off l G ad iS iA iL iT iC iR r pr ar br f pf af bf tx 0 (r (68 + k)) ((r 2) - (r (68 + k))) (by omega) hm) (cwV 3 hts (lw_V q1308 q1310 qs39 q73 q1311) rfl rfl rfl (by decide +kernel) ⟨Nat.le_of_ble_eq_true rfl, Nat.le_of_ble_eq_true rfl⟩) (oPc.preV hE (hE.recv (ci := 12) (hP 0 _ rfl) rfl) hP) rfl rfl hl.1 rfl (lv_room (Nat.le_of_ble_eq_true rfl)) dX5_judged_67 ⟨Nat.le_of_ble_eq_true rfl, Nat.le_of_ble_eq_true rfl⟩) rfl ?_
      refine lv_fstore (lv' := [(6, .float (mOff r f 0 (r (68 + k)) ((r 2) - (r (68 + k))))), (5, .int ((r 2) - (r (68 + k)))), (4, .int (r (68 + k))), (3, .int 1), (2, .int (mSh r (nI k))), (0, .ref (ad 0)), (1, .int (nI k))]) hx hb dX5_judged_70 hl (by decide) rfl (fun ls hl => ?_)
      refine lv_aload_n hx hb dX5_judged_72 rfl (lv_at hl 5 rfl) ?_
      refine lv_iconst (v := 1) hx hb dX5_judged_73 (by decide) ?_
      refine lv_iload hx hb dX5_judged_74 (lv_at hl 2 rfl) ?_
      refine lv_iload hx hb dX5_judged_76 (lv_at hl 1 rfl) ?_
      refine ol_cR (st1 := [.float (mOff r f 1 (r (68 + k)) ((r 2) - (r (68 + k))))]) (va_runV (As := [.int 1, .int (r (68 + k)), .int ((r 2) - (r (68 + k)))]) (rest := []) ⟨hx, hb, hml, hown, hts⟩ (mr_off l G ad iS iA iL iT iC iR r pr ar br f pf af bf tx 1 (r (68 + k)) ((r 2) - (r (68 + k))) (by omega) hm) (cwV 3 hts (lw_V q1308 q1310 qs39 q73 q1311) rfl rfl rfl (by decide +kernel) ⟨Nat.le_of_ble_eq_true rfl, Nat.le_of_ble_eq_true rfl⟩) (oPc.preV hE (hE.recv (ci := 12) (hP 0 _ rfl) rfl) hP) rfl rfl hl.1 rfl (lv_room (Nat.le_of_ble_eq_true rfl)) dX5_judged_78 ⟨Nat.le_of_ble_eq_true rfl, Nat.le_of_ble_eq_true rfl⟩) rfl ?_
      refine lv_fstore (lv' := [(7, .float (mOff r f 1 (r (68 + k)) ((r 2) - (r (68 + k))))), (6, .float (mOff r f 0 (r (68 + k)) ((r 2) - (r (68 + k))))), (5, .int ((r 2) - (r (68 + k)))), (4, .int (r (68 + k))), (3, .int 1), (2, .int (mSh r (nI k))), (0, .ref (ad 0)), (1, .int (nI k))]) hx hb dX5_judged_81 hl (by decide) rfl (fun ls hl => ?_)
      refine lv_fload hx hb dX5_judged_83 (lv_at hl 0 rfl) ?_
      refine lv_fload hx hb dX5_judged_85 (lv_at hl 1 rfl) ?_
      refine lv_fcmp hx hb dX5_judged_87 ?_
      refine lv_if_ge (tgt := 95) hx hb dX5_judged_88 (by decide) (fun c_88 => ?_) (fun c_88 => ?_)
      · refine lv_iconst (v := 0) hx hb dX5_judged_95 (by decide) ?_
        refine lv_istore (lv' := [(8, .int 0), (7, .float (mOff r f 1 (r (68 + k)) ((r 2) - (r (68 + k))))), (6, .float (mOff r f 0 (r (68 + k)) ((r 2) - (r (68 + k))))), (5, .int ((r 2) - (r (68 + k)))), (4, .int (r (68 + k))), (3, .int 1), (2, .int (mSh r (nI k))), (0, .ref (ad 0)), (1, .int (nI k))]) hx hb dX5_judged_96 hl (by decide) rfl (fun ls hl => ?_)
        refine lv_iload_n hx hb dX5_judged_98 rfl (lv_at hl 5 rfl) ?_
        refine ol_if_eq hx hb 1 (by omega) (tgt := 131) dX5_judged_99 (by decide) (fun c_99 => ?_) (fun c_99 => ?_)
        · exact absurd c_99 (by decide)
        · refine lv_iload hx hb dX5_judged_102 (lv_at hl 0 rfl) ?_
          refine ol_if_ne hx hb 0 (by omega) (tgt := 112) dX5_judged_104 (by decide) (fun c_104 => ?_) (fun c_104 => ?_)
          · exact absurd c_104 (by decide)
          · refine lv_fload hx hb dX5_judged_107 (lv_at hl 2 rfl) ?_
            refine lv_goto (tgt := 114) hx hb dX5_judged_109 (by decide) ?_
            refine lv_aload_n hx hb dX5_judged_114 rfl (lv_at hl 7 rfl) ?_
            refine va_get (D := G.1) (ci := 12) (v := .ref (ad 5)) (C := RX5) (T := TX5) (N := 15) hx hb hts in_X5 hown hE.1 hP 0 rfl rfl 4 (by decide) (hts _ q1139) (fun _ h9 => h9) rfl dX5_judged_115 ?_
            refine lv_iconst (v := 5) hx hb dX5_judged_118 (by decide) ?_
            refine ol_fald hx hb hE.1 hP 5 2 rfl rfl 5 (by decide) (by decide) dX5_judged_119 ?_
            refine lv_fcmp hx hb dX5_judged_120 ?_
            refine lv_if_gt (tgt := 129) hx hb dX5_judged_121 (by decide) (fun c_121 => ?_) (fun c_121 => ?_)
            · refine lv_iconst (v := 2) hx hb dX5_judged_129 (by decide) ?_
              exact ol_iretR hx hb hr hlocks rfl (by simp [mJd, flt, fle, zB, c_16, c_26, Int32.not_le.mpr c_26, c_88, Int32.not_lt.mpr c_88, c_99, c_104, c_121, Int32.not_le.mpr c_121]) dX5_judged_130
            · refine lv_iload hx hb dX5_judged_124 (lv_at hl 0 rfl) ?_
              refine lv_goto (tgt := 130) hx hb dX5_judged_126 (by decide) ?_
              exact ol_iretR hx hb hr hlocks rfl (by simp [mJd, flt, fle, zB, c_16, c_26, Int32.not_le.mpr c_26, c_88, Int32.not_lt.mpr c_88, c_99, c_104, c_121, Int32.not_lt.mp c_121]) dX5_judged_130
      · refine lv_iconst (v := 1) hx hb dX5_judged_91 (by decide) ?_
        refine lv_goto (tgt := 96) hx hb dX5_judged_92 (by decide) ?_
        refine lv_istore (lv' := [(8, .int 1), (7, .float (mOff r f 1 (r (68 + k)) ((r 2) - (r (68 + k))))), (6, .float (mOff r f 0 (r (68 + k)) ((r 2) - (r (68 + k))))), (5, .int ((r 2) - (r (68 + k)))), (4, .int (r (68 + k))), (3, .int 1), (2, .int (mSh r (nI k))), (0, .ref (ad 0)), (1, .int (nI k))]) hx hb dX5_judged_96 hl (by decide) rfl (fun ls hl => ?_)
        refine lv_iload_n hx hb dX5_judged_98 rfl (lv_at hl 5 rfl) ?_
        refine ol_if_eq hx hb 1 (by omega) (tgt := 131) dX5_judged_99 (by decide) (fun c_99 => ?_) (fun c_99 => ?_)
        · exact absurd c_99 (by decide)
        · refine lv_iload hx hb dX5_judged_102 (lv_at hl 0 rfl) ?_
          refine ol_if_ne hx hb 1 (by omega) (tgt := 112) dX5_judged_104 (by decide) (fun c_104 => ?_) (fun c_104 => ?_)
          · refine lv_fload hx hb dX5_judged_112 (lv_at hl 1 rfl) ?_
            refine lv_aload_n hx hb dX5_judged_114 rfl (lv_at hl 7 rfl) ?_
            refine va_get (D := G.1) (ci := 12) (v := .ref (ad 5)) (C := RX5) (T := TX5) (N := 15) hx hb hts in_X5 hown hE.1 hP 0 rfl rfl 4 (by decide) (hts _ q1139) (fun _ h9 => h9) rfl dX5_judged_115 ?_
            refine lv_iconst (v := 5) hx hb dX5_judged_118 (by decide) ?_
            refine ol_fald hx hb hE.1 hP 5 2 rfl rfl 5 (by decide) (by decide) dX5_judged_119 ?_
            refine lv_fcmp hx hb dX5_judged_120 ?_
            refine lv_if_gt (tgt := 129) hx hb dX5_judged_121 (by decide) (fun c_121 => ?_) (fun c_121 => ?_)
            · refine lv_iconst (v := 2) hx hb dX5_judged_129 (by decide) ?_
              exact ol_iretR hx hb hr hlocks rfl (by simp [mJd, flt, fle, zB, c_16, c_26, Int32.not_le.mpr c_26, c_88, Int32.not_le.mp c_88, c_99, c_104, c_121, Int32.not_le.mpr c_121]) dX5_judged_130
            · refine lv_iload hx hb dX5_judged_124 (lv_at hl 0 rfl) ?_
              refine lv_goto (tgt := 130) hx hb dX5_judged_126 (by decide) ?_
              exact ol_iretR hx hb hr hlocks rfl (by simp [mJd, flt, fle, zB, c_16, c_26, Int32.not_le.mpr c_26, c_88, Int32.not_le.mp c_88, c_99, c_104, c_121, Int32.not_lt.mp c_121]) dX5_judged_130
          · exact absurd c_104 (by decide)
    · refine lv_iload_n hx hb dX5_judged_29 rfl (lv_at hl 0 rfl) ?_
      refine ol_if_eq hx hb 1 (by omega) (tgt := 37) dX5_judged_30 (by decide) (fun c_30 => ?_) (fun c_30 => ?_)
      · exact absurd c_30 (by decide)
      · refine lv_iconst (v := 2) hx hb dX5_judged_33 (by decide) ?_
        refine lv_goto (tgt := 38) hx hb dX5_judged_34 (by decide) ?_
        exact ol_iretR hx hb hr hlocks rfl (by simp [mJd, flt, fle, zB, c_16, c_26, Int32.not_lt.mp c_26, c_30]) dX5_judged_38
set_option maxHeartbeats 4000000 in
set_option maxRecDepth 100000 in
theorem mr_noDispute (l : Launch) (G : oG) (ad : Nat → Nat) (iS : Int32) (iA : Int32) (iL : Int32) (iT : Int32) (iC : Int32) (iR : Int32) (r : Nat → Int32) (pr : Nat → Int32) (ar : Nat → Int32) (br : Nat → Int32) (f : Nat → UInt32) (pf : Nat → UInt32) (af : Nat → UInt32) (bf : Nat → UInt32) (tx : Nat → Int32) (q : Int32)   : Met l yX5_noDispute (ws_ yX5_noDispute cX5_noDispute 2 (some .boolean)) ({ frames := 1, cells := 0, slots := 0, locals := 22 }) (oPc G [.ref (ad 0), .int q] (fun H => va_P G.1 cl0 (mW G ad iS iA iL iT iC iR r pr ar br f pf af bf tx) H)) (oR (some (.int (zB (!inR q 0 (r 16 - 1)))))) 0 0 (fun _ => False) := by
  refine Met.ofW (cc := cX5_noDispute) (maxL := 2) (ret := (some .boolean)) (by decide) rfl ?_
  intro p e s m args below meth c s₁ B hml hv
  obtain ⟨rfl, hP, hE⟩ := hv
  have hx := B.exec
  have hb := B.bytes
  have hr := B.returns
  have hts := atoms_spec (ws := ws_ yX5_noDispute cX5_noDispute 2 (some .boolean)) B.pre
  have hts : ∀ w ∈ lw_all, w.before _ s = true := fun w h => hts w (List.mem_cons_of_mem _ h)
  have hown : s.vm.findClass RX5 = some m.cls := findClass_of_methodNamed B.named
  have hlocks := B.notSynchronized
  have hl := lv_entry ([.ref (ad 0), .int q]) (n := 2) (Nat.le_of_ble_eq_true rfl)
  rw [lg_entry_eq]
  generalize (lg_sl ([.ref (ad 0), .int q]) ++ List.replicate (2 - (lg_sl ([.ref (ad 0), .int q])).length) Slot.unset).toArray = ls at hl ⊢
  replace hl : lv_has ls 2 [(0, .ref (ad 0)), (1, .int q)] := hl
  refine lv_iload_n hx hb dX5_noDispute_0 rfl (lv_at hl 1 rfl) ?_
  refine lv_iconst (v := 0) hx hb dX5_noDispute_1 (by decide) ?_
  refine lv_aload_n hx hb dX5_noDispute_2 rfl (lv_at hl 0 rfl) ?_
  refine va_get (D := G.1) (ci := 12) (v := .ref (ad 1)) (C := RX5) (T := TX5) (N := 15) hx hb hts in_X5 hown hE.1 hP 0 rfl rfl 0 (by decide) (hts _ q1135) (fun _ h9 => h9) rfl dX5_noDispute_3 ?_
  refine lv_bipush (v := 16) hx hb dX5_noDispute_6 (by decide) ?_
  refine ol_iald hx hb hE.1 hP 1 0 rfl rfl 16 (by decide) (by decide) dX5_noDispute_8 ?_
  refine lv_iconst (v := 1) hx hb dX5_noDispute_9 (by decide) ?_
  refine lv_isub hx hb dX5_noDispute_10 ?_
  refine ol_cR (st1 := [.int (zB (inR q 0 ((r 16) - 1)))]) (va_runS (As := [.int q, .int 0, .int ((r 16) - 1)]) (rest := []) ⟨hx, hb, hml, hown, hts⟩ (mr_in l G q 0 ((r 16) - 1) ) (va_cwS 3 hts (lw_S q1210 q1211 q73 q1212) rfl rfl rfl (by decide +kernel) ⟨Nat.le_of_ble_eq_true rfl, Nat.le_of_ble_eq_true rfl⟩) (oPc.preS hE trivial) rfl rfl hl.1 rfl (lv_room (Nat.le_of_ble_eq_true rfl)) dX5_noDispute_11 ⟨Nat.le_of_ble_eq_true rfl, Nat.le_of_ble_eq_true rfl⟩) rfl ?_
  refine ol_if_neB hx hb (inR q 0 ((r 16) - 1)) (tgt := 21) dX5_noDispute_14 (by decide) (fun c_14 => ?_) (fun c_14 => ?_)
  · refine lv_iconst (v := 0) hx hb dX5_noDispute_21 (by decide) ?_
    exact ol_zretR hx hb hr hlocks rfl (by simp [zB, c_14]) dX5_noDispute_22
  · refine lv_iconst (v := 1) hx hb dX5_noDispute_17 (by decide) ?_
    refine lv_goto (tgt := 22) hx hb dX5_noDispute_18 (by decide) ?_
    exact ol_zretR hx hb hr hlocks rfl (by simp [zB, c_14]) dX5_noDispute_22
set_option maxHeartbeats 4000000 in
set_option maxRecDepth 100000 in
theorem mr_againstPress (l : Launch) (G : oG) (ad : Nat → Nat) (iS : Int32) (iA : Int32) (iL : Int32) (iT : Int32) (iC : Int32) (iR : Int32) (r : Nat → Int32) (pr : Nat → Int32) (ar : Nat → Int32) (br : Nat → Int32) (f : Nat → UInt32) (pf : Nat → UInt32) (af : Nat → UInt32) (bf : Nat → UInt32) (tx : Nat → Int32) (q : Int32) (k : Int32) (Rw Cl : Nat) (hg : mG r Rw Cl) : Met l yX5_againstPress (ws_ yX5_againstPress cX5_againstPress 3 (some .int)) ({ frames := 2, cells := 0, slots := 0, locals := 43 }) (oPc G [.ref (ad 0), .int q, .int k] (fun H => va_P G.1 cl0 (mW G ad iS iA iL iT iC iR r pr ar br f pf af bf tx) H)) (oR (some (.int (mAP r (Rw * Cl) q k)))) 0 0 (fun _ => False) := by
  refine Met.ofW (cc := cX5_againstPress) (maxL := 3) (ret := (some .int)) (by decide) rfl ?_
  intro p e s m args below meth c s₁ B hml hv
  obtain ⟨rfl, hP, hE⟩ := hv
  have hx := B.exec
  have hb := B.bytes
  have hr := B.returns
  have hts := atoms_spec (ws := ws_ yX5_againstPress cX5_againstPress 3 (some .int)) B.pre
  have hts : ∀ w ∈ lw_all, w.before _ s = true := fun w h => hts w (List.mem_cons_of_mem _ h)
  have hown : s.vm.findClass RX5 = some m.cls := findClass_of_methodNamed B.named
  have hlocks := B.notSynchronized
  have hl := lv_entry ([.ref (ad 0), .int q, .int k]) (n := 3) (Nat.le_of_ble_eq_true rfl)
  rw [lg_entry_eq]
  generalize (lg_sl ([.ref (ad 0), .int q, .int k]) ++ List.replicate (3 - (lg_sl ([.ref (ad 0), .int q, .int k])).length) Slot.unset).toArray = ls at hl ⊢
  replace hl : lv_has ls 3 [(0, .ref (ad 0)), (1, .int q), (2, .int k)] := hl
  have hgn := mG_n hg
  have hg' := hg
  obtain ⟨hg0, hg1, hg2, hg3, hg4, hg5⟩ := hg'
  refine lv_aload_n hx hb dX5_againstPress_0 rfl (lv_at hl 0 rfl) ?_
  refine lv_iload_n hx hb dX5_againstPress_1 rfl (lv_at hl 1 rfl) ?_
  refine ol_cR (st1 := [.int (zB (noT q))]) (va_runV (As := [.int q]) (rest := []) ⟨hx, hb, hml, hown, hts⟩ (mr_noTypist l G ad iS iA iL iT iC iR r pr ar br f pf af bf tx q ) (cwV 1 hts (lw_V q1241 q1243 qs30 q73 q1244) rfl rfl rfl (by decide +kernel) ⟨Nat.le_of_ble_eq_true rfl, Nat.le_of_ble_eq_true rfl⟩) (oPc.preV hE (hE.recv (ci := 12) (hP 0 _ rfl) rfl) hP) rfl rfl hl.1 rfl (lv_room (Nat.le_of_ble_eq_true rfl)) dX5_againstPress_2 ⟨Nat.le_of_ble_eq_true rfl, Nat.le_of_ble_eq_true rfl⟩) rfl ?_
  refine ol_if_neB hx hb (noT q) (tgt := 16) dX5_againstPress_5 (by decide) (fun c_5 => ?_) (fun c_5 => ?_)
  · refine lv_iconst (v := (-1)) hx hb dX5_againstPress_16 (by decide) ?_
    exact ol_iretR hx hb hr hlocks rfl (by simp [mAP, zB, c_5]) dX5_againstPress_17
  · refine lv_aload_n hx hb dX5_againstPress_8 rfl (lv_at hl 0 rfl) ?_
    refine lv_iload_n hx hb dX5_againstPress_9 rfl (lv_at hl 2 rfl) ?_
    refine ol_cR (st1 := [.int (zB (noK k (Rw * Cl)))]) (va_runV (As := [.int k]) (rest := []) ⟨hx, hb, hml, hown, hts⟩ (mr_noKey l G ad iS iA iL iT iC iR r pr ar br f pf af bf tx k Rw Cl hg) (cwV 1 hts (lw_V q1229 q1231 qs28 q73 q1232) rfl rfl rfl (by decide +kernel) ⟨Nat.le_of_ble_eq_true rfl, Nat.le_of_ble_eq_true rfl⟩) (oPc.preV hE (hE.recv (ci := 12) (hP 0 _ rfl) rfl) hP) rfl rfl hl.1 rfl (lv_room (Nat.le_of_ble_eq_true rfl)) dX5_againstPress_10 ⟨Nat.le_of_ble_eq_true rfl, Nat.le_of_ble_eq_true rfl⟩) rfl ?_
    refine ol_if_eqB hx hb (noK k (Rw * Cl)) (tgt := 18) dX5_againstPress_13 (by decide) (fun c_13 => ?_) (fun c_13 => ?_)
    · obtain ⟨hk1, hk2⟩ := noK_f (c_13) (by omega) (by omega)
      refine lv_aload_n hx hb dX5_againstPress_18 rfl (lv_at hl 0 rfl) ?_
      refine lv_iload_n hx hb dX5_againstPress_19 rfl (lv_at hl 2 rfl) ?_
      refine ol_top (y := nI (cN k)) hk2 ?_
      refine ol_cR (st1 := [.int (zB (dn r (cN k)))]) (va_runV (As := [.int (nI (cN k))]) (rest := []) ⟨hx, hb, hml, hown, hts⟩ (mr_isDown l G ad iS iA iL iT iC iR r pr ar br f pf af bf tx (cN k) (by omega)) (cwV 1 hts (lw_V q1217 q1219 qs26 q73 q1220) rfl rfl rfl (by decide +kernel) ⟨Nat.le_of_ble_eq_true rfl, Nat.le_of_ble_eq_true rfl⟩) (oPc.preV hE (hE.recv (ci := 12) (hP 0 _ rfl) rfl) hP) rfl rfl hl.1 rfl (lv_room (Nat.le_of_ble_eq_true rfl)) dX5_againstPress_20 ⟨Nat.le_of_ble_eq_true rfl, Nat.le_of_ble_eq_true rfl⟩) rfl ?_
      refine ol_if_eqB hx hb (dn r (cN k)) (tgt := 31) dX5_againstPress_23 (by decide) (fun c_23 => ?_) (fun c_23 => ?_)
      · refine lv_aload_n hx hb dX5_againstPress_31 rfl (lv_at hl 0 rfl) ?_
        refine lv_iload_n hx hb dX5_againstPress_32 rfl (lv_at hl 1 rfl) ?_
        refine ol_cR (st1 := [.int (nI (mHeld r (Rw * Cl) q))]) (va_runV (As := [.int q]) (rest := []) ⟨hx, hb, hml, hown, hts⟩ (mr_held l G ad iS iA iL iT iC iR r pr ar br f pf af bf tx q Rw Cl hg) (cwV 1 hts (lw_V q1272 q1274 qs32 q73 q1275) rfl rfl rfl (by decide +kernel) ⟨Nat.le_of_ble_eq_true rfl, Nat.le_of_ble_eq_true rfl⟩) (oPc.preV hE (hE.recv (ci := 12) (hP 0 _ rfl) rfl) hP) rfl rfl hl.1 rfl (lv_room (Nat.le_of_ble_eq_true rfl)) dX5_againstPress_33 ⟨Nat.le_of_ble_eq_true rfl, Nat.le_of_ble_eq_true rfl⟩) rfl ?_
        refine lv_iconst (v := 5) hx hb dX5_againstPress_36 (by decide) ?_
        have hh : mHeld r (Rw * Cl) q ≤ 48 := Nat.le_trans (rng_c_le _ _) hgn.2
        refine ol_icmp_ne hx hb (mHeld r (Rw * Cl) q) 5 (by omega) (by omega) (tgt := 45) dX5_againstPress_37 (by decide) (fun c_37 => ?_) (fun c_37 => ?_)
        · refine lv_iconst (v := 0) hx hb dX5_againstPress_45 (by decide) ?_
          exact ol_iretR hx hb hr hlocks rfl (by simp [mAP, zB, c_5, c_13, c_23, c_37]) dX5_againstPress_46
        · refine lv_bipush (v := (-3)) hx hb dX5_againstPress_40 (by decide) ?_
          refine lv_goto (tgt := 46) hx hb dX5_againstPress_42 (by decide) ?_
          exact ol_iretR hx hb hr hlocks rfl (by simp [mAP, zB, c_5, c_13, c_23, c_37]) dX5_againstPress_46
      · refine lv_bipush (v := (-4)) hx hb dX5_againstPress_26 (by decide) ?_
        refine lv_goto (tgt := 46) hx hb dX5_againstPress_28 (by decide) ?_
        exact ol_iretR hx hb hr hlocks rfl (by simp [mAP, zB, c_5, c_13, c_23]) dX5_againstPress_46
    · refine lv_iconst (v := (-1)) hx hb dX5_againstPress_16 (by decide) ?_
      exact ol_iretR hx hb hr hlocks rfl (by simp [mAP, zB, c_5, c_13]) dX5_againstPress_17
set_option maxHeartbeats 4000000 in
set_option maxRecDepth 100000 in
theorem mr_againstRelease (l : Launch) (G : oG) (ad : Nat → Nat) (iS : Int32) (iA : Int32) (iL : Int32) (iT : Int32) (iC : Int32) (iR : Int32) (r : Nat → Int32) (pr : Nat → Int32) (ar : Nat → Int32) (br : Nat → Int32) (f : Nat → UInt32) (pf : Nat → UInt32) (af : Nat → UInt32) (bf : Nat → UInt32) (tx : Nat → Int32) (q : Int32) (k : Int32) (Rw Cl : Nat) (hg : mG r Rw Cl) : Met l yX5_againstRelease (ws_ yX5_againstRelease cX5_againstRelease 3 (some .int)) ({ frames := 2, cells := 0, slots := 0, locals := 43 }) (oPc G [.ref (ad 0), .int q, .int k] (fun H => va_P G.1 cl0 (mW G ad iS iA iL iT iC iR r pr ar br f pf af bf tx) H)) (oR (some (.int (mAR r (Rw * Cl) q k)))) 0 0 (fun _ => False) := by
  refine Met.ofW (cc := cX5_againstRelease) (maxL := 3) (ret := (some .int)) (by decide) rfl ?_
  intro p e s m args below meth c s₁ B hml hv
  obtain ⟨rfl, hP, hE⟩ := hv
  have hx := B.exec
  have hb := B.bytes
  have hr := B.returns
  have hts := atoms_spec (ws := ws_ yX5_againstRelease cX5_againstRelease 3 (some .int)) B.pre
  have hts : ∀ w ∈ lw_all, w.before _ s = true := fun w h => hts w (List.mem_cons_of_mem _ h)
  have hown : s.vm.findClass RX5 = some m.cls := findClass_of_methodNamed B.named
  have hlocks := B.notSynchronized
  have hl := lv_entry ([.ref (ad 0), .int q, .int k]) (n := 3) (Nat.le_of_ble_eq_true rfl)
  rw [lg_entry_eq]
  generalize (lg_sl ([.ref (ad 0), .int q, .int k]) ++ List.replicate (3 - (lg_sl ([.ref (ad 0), .int q, .int k])).length) Slot.unset).toArray = ls at hl ⊢
  replace hl : lv_has ls 3 [(0, .ref (ad 0)), (1, .int q), (2, .int k)] := hl
  have hgn := mG_n hg
  have hg' := hg
  obtain ⟨hg0, hg1, hg2, hg3, hg4, hg5⟩ := hg'
  refine lv_aload_n hx hb dX5_againstRelease_0 rfl (lv_at hl 0 rfl) ?_
  refine lv_iload_n hx hb dX5_againstRelease_1 rfl (lv_at hl 1 rfl) ?_
  refine ol_cR (st1 := [.int (zB (noT q))]) (va_runV (As := [.int q]) (rest := []) ⟨hx, hb, hml, hown, hts⟩ (mr_noTypist l G ad iS iA iL iT iC iR r pr ar br f pf af bf tx q ) (cwV 1 hts (lw_V q1241 q1243 qs30 q73 q1244) rfl rfl rfl (by decide +kernel) ⟨Nat.le_of_ble_eq_true rfl, Nat.le_of_ble_eq_true rfl⟩) (oPc.preV hE (hE.recv (ci := 12) (hP 0 _ rfl) rfl) hP) rfl rfl hl.1 rfl (lv_room (Nat.le_of_ble_eq_true rfl)) dX5_againstRelease_2 ⟨Nat.le_of_ble_eq_true rfl, Nat.le_of_ble_eq_true rfl⟩) rfl ?_
  refine ol_if_neB hx hb (noT q) (tgt := 16) dX5_againstRelease_5 (by decide) (fun c_5 => ?_) (fun c_5 => ?_)
  · refine lv_iconst (v := (-1)) hx hb dX5_againstRelease_16 (by decide) ?_
    exact ol_iretR hx hb hr hlocks rfl (by simp [mAR, zB, c_5]) dX5_againstRelease_17
  · refine lv_aload_n hx hb dX5_againstRelease_8 rfl (lv_at hl 0 rfl) ?_
    refine lv_iload_n hx hb dX5_againstRelease_9 rfl (lv_at hl 2 rfl) ?_
    refine ol_cR (st1 := [.int (zB (noK k (Rw * Cl)))]) (va_runV (As := [.int k]) (rest := []) ⟨hx, hb, hml, hown, hts⟩ (mr_noKey l G ad iS iA iL iT iC iR r pr ar br f pf af bf tx k Rw Cl hg) (cwV 1 hts (lw_V q1229 q1231 qs28 q73 q1232) rfl rfl rfl (by decide +kernel) ⟨Nat.le_of_ble_eq_true rfl, Nat.le_of_ble_eq_true rfl⟩) (oPc.preV hE (hE.recv (ci := 12) (hP 0 _ rfl) rfl) hP) rfl rfl hl.1 rfl (lv_room (Nat.le_of_ble_eq_true rfl)) dX5_againstRelease_10 ⟨Nat.le_of_ble_eq_true rfl, Nat.le_of_ble_eq_true rfl⟩) rfl ?_
    refine ol_if_eqB hx hb (noK k (Rw * Cl)) (tgt := 18) dX5_againstRelease_13 (by decide) (fun c_13 => ?_) (fun c_13 => ?_)
    · obtain ⟨hk1, hk2⟩ := noK_f (c_13) (by omega) (by omega)
      refine lv_aload_n hx hb dX5_againstRelease_18 rfl (lv_at hl 0 rfl) ?_
      refine va_get (D := G.1) (ci := 12) (v := .ref (ad 1)) (C := RX5) (T := TX5) (N := 15) hx hb hts in_X5 hown hE.1 hP 0 rfl rfl 0 (by decide) (hts _ q1135) (fun _ h9 => h9) rfl dX5_againstRelease_19 ?_
      refine lv_bipush (v := 20) hx hb dX5_againstRelease_22 (by decide) ?_
      refine lv_iload_n hx hb dX5_againstRelease_24 rfl (lv_at hl 2 rfl) ?_
      refine ol_top (y := nI (cN k)) hk2 ?_
      refine ol_iadd hx hb 20 (cN k) dX5_againstRelease_25 ?_
      refine ol_iald hx hb hE.1 hP 1 0 rfl rfl (20 + (cN k)) (by omega) (by decide) dX5_againstRelease_26 ?_
      refine lv_iload_n hx hb dX5_againstRelease_27 rfl (lv_at hl 1 rfl) ?_
      refine lv_icmp_ne (tgt := 35) hx hb dX5_againstRelease_28 (by decide) (fun c_28 => ?_) (fun c_28 => ?_)
      · refine lv_bipush (v := (-4)) hx hb dX5_againstRelease_35 (by decide) ?_
        exact ol_iretR hx hb hr hlocks rfl (by simp [mAR, zB, c_5, c_13, c_28]) dX5_againstRelease_37
      · refine lv_iconst (v := 0) hx hb dX5_againstRelease_31 (by decide) ?_
        refine lv_goto (tgt := 37) hx hb dX5_againstRelease_32 (by decide) ?_
        exact ol_iretR hx hb hr hlocks rfl (by simp [mAR, zB, c_5, c_13, c_28]) dX5_againstRelease_37
    · refine lv_iconst (v := (-1)) hx hb dX5_againstRelease_16 (by decide) ?_
      exact ol_iretR hx hb hr hlocks rfl (by simp [mAR, zB, c_5, c_13]) dX5_againstRelease_17
set_option maxHeartbeats 4000000 in
set_option maxRecDepth 100000 in
theorem mr_sees (l : Launch) (G : oG) (ad : Nat → Nat) (iS : Int32) (iA : Int32) (ln : Nat) (t : Nat) (iC : Int32) (iR : Int32) (r : Nat → Int32) (pr : Nat → Int32) (ar : Nat → Int32) (br : Nat → Int32) (f : Nat → UInt32) (pf : Nat → UInt32) (af : Nat → UInt32) (bf : Nat → UInt32) (tx : Nat → Int32) (lo : Int32) (hi : Int32)  (h60 : ln ≤ 60) (ht : t ≤ ln) : Met l yX5_sees (ws_ yX5_sees cX5_sees 3 (some .boolean)) ({ frames := 1, cells := 0, slots := 0, locals := 22 }) (oPc G [.ref (ad 0), .int lo, .int hi] (fun H => va_P G.1 cl0 (mW G ad iS iA (nI ln) (nI t) iC iR r pr ar br f pf af bf tx) H)) (oR (some (.int (zB (mSees tx t ln lo hi))))) 0 0 (fun _ => False) := by
  refine Met.ofW (cc := cX5_sees) (maxL := 3) (ret := (some .boolean)) (by decide) rfl ?_
  intro p e s m args below meth c s₁ B hml hv
  obtain ⟨rfl, hP, hE⟩ := hv
  have hx := B.exec
  have hb := B.bytes
  have hr := B.returns
  have hts := atoms_spec (ws := ws_ yX5_sees cX5_sees 3 (some .boolean)) B.pre
  have hts : ∀ w ∈ lw_all, w.before _ s = true := fun w h => hts w (List.mem_cons_of_mem _ h)
  have hown : s.vm.findClass RX5 = some m.cls := findClass_of_methodNamed B.named
  have hlocks := B.notSynchronized
  have hl := lv_entry ([.ref (ad 0), .int lo, .int hi]) (n := 3) (Nat.le_of_ble_eq_true rfl)
  rw [lg_entry_eq]
  generalize (lg_sl ([.ref (ad 0), .int lo, .int hi]) ++ List.replicate (3 - (lg_sl ([.ref (ad 0), .int lo, .int hi])).length) Slot.unset).toArray = ls at hl ⊢
  replace hl : lv_has ls 3 [(0, .ref (ad 0)), (1, .int lo), (2, .int hi)] := hl
  refine lv_aload_n hx hb dX5_sees_0 rfl (lv_at hl 0 rfl) ?_
  refine va_get (D := G.1) (ci := 12) (v := .int (nI t)) (C := RX5) (T := TX5) (N := 15) hx hb hts in_X5 hown hE.1 hP 0 rfl rfl 12 (by decide) (hts _ q1147) (fun _ h9 => h9) rfl dX5_sees_1 ?_
  refine lv_aload_n hx hb dX5_sees_4 rfl (lv_at hl 0 rfl) ?_
  refine va_get (D := G.1) (ci := 12) (v := .int (nI ln)) (C := RX5) (T := TX5) (N := 15) hx hb hts in_X5 hown hE.1 hP 0 rfl rfl 11 (by decide) (hts _ q1146) (fun _ h9 => h9) rfl dX5_sees_5 ?_
  refine ol_icmp_ge hx hb t ln (by omega) (by omega) (tgt := 32) dX5_sees_8 (by decide) (fun c_8 => ?_) (fun c_8 => ?_)
  · refine lv_iconst (v := 0) hx hb dX5_sees_32 (by decide) ?_
    exact ol_zretR hx hb hr hlocks rfl (by simp [mSees, zB, c_8, Nat.not_lt.mpr c_8]) dX5_sees_33
  · refine lv_aload_n hx hb dX5_sees_11 rfl (lv_at hl 0 rfl) ?_
    refine va_get (D := G.1) (ci := 12) (v := .ref (ad 9)) (C := RX5) (T := TX5) (N := 15) hx hb hts in_X5 hown hE.1 hP 0 rfl rfl 10 (by decide) (hts _ q1145) (fun _ h9 => h9) rfl dX5_sees_12 ?_
    refine lv_aload_n hx hb dX5_sees_15 rfl (lv_at hl 0 rfl) ?_
    refine va_get (D := G.1) (ci := 12) (v := .int (nI t)) (C := RX5) (T := TX5) (N := 15) hx hb hts in_X5 hown hE.1 hP 0 rfl rfl 12 (by decide) (hts _ q1147) (fun _ h9 => h9) rfl dX5_sees_16 ?_
    refine ol_cald hx hb hE.1 hP 9 4 rfl rfl t (by omega) (by decide) dX5_sees_19 ?_
    refine lv_iload_n hx hb dX5_sees_20 rfl (lv_at hl 1 rfl) ?_
    refine lv_iload_n hx hb dX5_sees_21 rfl (lv_at hl 2 rfl) ?_
    refine ol_cR (st1 := [.int (zB (inR (tx t) lo hi))]) (va_runS (As := [.int (tx t), .int lo, .int hi]) (rest := []) ⟨hx, hb, hml, hown, hts⟩ (mr_in l G (tx t) lo hi ) (va_cwS 3 hts (lw_S q1210 q1211 q73 q1212) rfl rfl rfl (by decide +kernel) ⟨Nat.le_of_ble_eq_true rfl, Nat.le_of_ble_eq_true rfl⟩) (oPc.preS hE trivial) rfl rfl hl.1 rfl (lv_room (Nat.le_of_ble_eq_true rfl)) dX5_sees_22 ⟨Nat.le_of_ble_eq_true rfl, Nat.le_of_ble_eq_true rfl⟩) rfl ?_
    refine ol_if_eqB hx hb (inR (tx t) lo hi) (tgt := 32) dX5_sees_25 (by decide) (fun c_25 => ?_) (fun c_25 => ?_)
    · refine lv_iconst (v := 0) hx hb dX5_sees_32 (by decide) ?_
      exact ol_zretR hx hb hr hlocks rfl (by simp [mSees, zB, c_8, Nat.not_le.mpr c_8, c_25]) dX5_sees_33
    · refine lv_iconst (v := 1) hx hb dX5_sees_28 (by decide) ?_
      refine lv_goto (tgt := 33) hx hb dX5_sees_29 (by decide) ?_
      exact ol_zretR hx hb hr hlocks rfl (by simp [mSees, zB, c_8, Nat.not_le.mpr c_8, c_25]) dX5_sees_33
set_option maxHeartbeats 4000000 in
set_option maxRecDepth 100000 in
theorem mr_typist (l : Launch) (G : oG) (ad : Nat → Nat) (iS : Int32) (iA : Int32) (iL : Int32) (iT : Int32) (iC : Int32) (iR : Int32) (r : Nat → Int32) (pr : Nat → Int32) (ar : Nat → Int32) (br : Nat → Int32) (f : Nat → UInt32) (pf : Nat → UInt32) (af : Nat → UInt32) (bf : Nat → UInt32) (tx : Nat → Int32) (q : Int32) (x : Int32) (Rw Cl : Nat) (hg : mG r Rw Cl) (hsh : mShs r) : Met l yX5_typist (ws_ yX5_typist cX5_typist 3 (some .int)) ({ frames := 2, cells := 0, slots := 0, locals := 43 }) (oPc G [.ref (ad 0), .int q, .int x] (fun H => va_P G.1 cl0 (mW G ad iS iA iL iT iC iR r pr ar br f pf af bf tx) H)) (oR (some (.int (mTypist r (Rw * Cl) q x)))) 0 0 (fun _ => False) := by
  refine Met.ofW (cc := cX5_typist) (maxL := 3) (ret := (some .int)) (by decide) rfl ?_
  intro p e s m args below meth c s₁ B hml hv
  obtain ⟨rfl, hP, hE⟩ := hv
  have hx := B.exec
  have hb := B.bytes
  have hr := B.returns
  have hts := atoms_spec (ws := ws_ yX5_typist cX5_typist 3 (some .int)) B.pre
  have hts : ∀ w ∈ lw_all, w.before _ s = true := fun w h => hts w (List.mem_cons_of_mem _ h)
  have hown : s.vm.findClass RX5 = some m.cls := findClass_of_methodNamed B.named
  have hlocks := B.notSynchronized
  have hl := lv_entry ([.ref (ad 0), .int q, .int x]) (n := 3) (Nat.le_of_ble_eq_true rfl)
  rw [lg_entry_eq]
  generalize (lg_sl ([.ref (ad 0), .int q, .int x]) ++ List.replicate (3 - (lg_sl ([.ref (ad 0), .int q, .int x])).length) Slot.unset).toArray = ls at hl ⊢
  replace hl : lv_has ls 3 [(0, .ref (ad 0)), (1, .int q), (2, .int x)] := hl
  have hgn := mG_n hg
  have hg' := hg
  obtain ⟨hg0, hg1, hg2, hg3, hg4, hg5⟩ := hg'
  refine lv_aload_n hx hb dX5_typist_0 rfl (lv_at hl 0 rfl) ?_
  refine lv_iload_n hx hb dX5_typist_1 rfl (lv_at hl 1 rfl) ?_
  refine ol_cR (st1 := [.int (zB (noT q))]) (va_runV (As := [.int q]) (rest := []) ⟨hx, hb, hml, hown, hts⟩ (mr_noTypist l G ad iS iA iL iT iC iR r pr ar br f pf af bf tx q ) (cwV 1 hts (lw_V q1241 q1243 qs30 q73 q1244) rfl rfl rfl (by decide +kernel) ⟨Nat.le_of_ble_eq_true rfl, Nat.le_of_ble_eq_true rfl⟩) (oPc.preV hE (hE.recv (ci := 12) (hP 0 _ rfl) rfl) hP) rfl rfl hl.1 rfl (lv_room (Nat.le_of_ble_eq_true rfl)) dX5_typist_2 ⟨Nat.le_of_ble_eq_true rfl, Nat.le_of_ble_eq_true rfl⟩) rfl ?_
  refine ol_if_eqB hx hb (noT q) (tgt := 10) dX5_typist_5 (by decide) (fun c_5 => ?_) (fun c_5 => ?_)
  · obtain ⟨hq2, hq1⟩ := noT_f (c_5)
    refine lv_iload_n hx hb dX5_typist_10 rfl (lv_at hl 2 rfl) ?_
    by_cases e_11_0 : x = 0
    · refine lv_tableIn (tgt := 56) (off := 45) hx hb dX5_typist_11 (by rw [e_11_0]; decide) (by rw [e_11_0]; decide) (by rw [e_11_0]; rfl) (by decide) ?_
      refine lv_aload_n hx hb dX5_typist_56 rfl (lv_at hl 0 rfl) ?_
      refine lv_iload_n hx hb dX5_typist_57 rfl (lv_at hl 1 rfl) ?_
      refine ol_cR (st1 := [.int (nI (mHeld r (Rw * Cl) q))]) (va_runV (As := [.int q]) (rest := []) ⟨hx, hb, hml, hown, hts⟩ (mr_held l G ad iS iA iL iT iC iR r pr ar br f pf af bf tx q Rw Cl hg) (cwV 1 hts (lw_V q1272 q1274 qs32 q73 q1275) rfl rfl rfl (by decide +kernel) ⟨Nat.le_of_ble_eq_true rfl, Nat.le_of_ble_eq_true rfl⟩) (oPc.preV hE (hE.recv (ci := 12) (hP 0 _ rfl) rfl) hP) rfl rfl hl.1 rfl (lv_room (Nat.le_of_ble_eq_true rfl)) dX5_typist_58 ⟨Nat.le_of_ble_eq_true rfl, Nat.le_of_ble_eq_true rfl⟩) rfl ?_
      exact ol_iretR hx hb hr hlocks rfl (by simp [mTypist, zB, c_5, e_11_0]) dX5_typist_61
    by_cases e_11_1 : x = 1
    · refine lv_tableIn (tgt := 62) (off := 51) hx hb dX5_typist_11 (by rw [e_11_1]; decide) (by rw [e_11_1]; decide) (by rw [e_11_1]; rfl) (by decide) ?_
      refine lv_aload_n hx hb dX5_typist_62 rfl (lv_at hl 0 rfl) ?_
      refine va_get (D := G.1) (ci := 12) (v := .ref (ad 1)) (C := RX5) (T := TX5) (N := 15) hx hb hts in_X5 hown hE.1 hP 0 rfl rfl 0 (by decide) (hts _ q1135) (fun _ h9 => h9) rfl dX5_typist_63 ?_
      refine lv_iconst (v := 5) hx hb dX5_typist_66 (by decide) ?_
      refine lv_iload_n hx hb dX5_typist_67 rfl (lv_at hl 1 rfl) ?_
      refine ol_top (y := nI (cN q)) hq1 ?_
      refine ol_iadd hx hb 5 (cN q) dX5_typist_68 ?_
      refine ol_iald hx hb hE.1 hP 1 0 rfl rfl (5 + (cN q)) (by omega) (by decide) dX5_typist_69 ?_
      exact ol_iretR hx hb hr hlocks rfl (by simp [mTypist, zB, c_5, e_11_0, e_11_1]) dX5_typist_70
    by_cases e_11_2 : x = 2
    · refine lv_tableIn (tgt := 71) (off := 60) hx hb dX5_typist_11 (by rw [e_11_2]; decide) (by rw [e_11_2]; decide) (by rw [e_11_2]; rfl) (by decide) ?_
      refine lv_aload_n hx hb dX5_typist_71 rfl (lv_at hl 0 rfl) ?_
      refine lv_iload_n hx hb dX5_typist_72 rfl (lv_at hl 1 rfl) ?_
      refine ol_top (y := nI (cN q)) hq1 ?_
      refine ol_cR (st1 := [.int (zB (mOn r (cN q)))]) (va_runV (As := [.int (nI (cN q))]) (rest := []) ⟨hx, hb, hml, hown, hts⟩ (mr_isOn l G ad iS iA iL iT iC iR r pr ar br f pf af bf tx (cN q) (by omega) hsh) (cwV 1 hts (lw_V q1339 q1341 qs46 q73 q1342) rfl rfl rfl (by decide +kernel) ⟨Nat.le_of_ble_eq_true rfl, Nat.le_of_ble_eq_true rfl⟩) (oPc.preV hE (hE.recv (ci := 12) (hP 0 _ rfl) rfl) hP) rfl rfl hl.1 rfl (lv_room (Nat.le_of_ble_eq_true rfl)) dX5_typist_73 ⟨Nat.le_of_ble_eq_true rfl, Nat.le_of_ble_eq_true rfl⟩) rfl ?_
      refine ol_if_eqB hx hb (mOn r (cN q)) (tgt := 83) dX5_typist_76 (by decide) (fun c_76 => ?_) (fun c_76 => ?_)
      · refine lv_iconst (v := 0) hx hb dX5_typist_83 (by decide) ?_
        exact ol_iretR hx hb hr hlocks rfl (by simp [mTypist, zB, c_5, e_11_0, e_11_1, e_11_2, c_76]) dX5_typist_84
      · refine lv_iconst (v := 1) hx hb dX5_typist_79 (by decide) ?_
        refine lv_goto (tgt := 84) hx hb dX5_typist_80 (by decide) ?_
        exact ol_iretR hx hb hr hlocks rfl (by simp [mTypist, zB, c_5, e_11_0, e_11_1, e_11_2, c_76]) dX5_typist_84
    by_cases e_11_3 : x = 3
    · refine lv_tableIn (tgt := 85) (off := 74) hx hb dX5_typist_11 (by rw [e_11_3]; decide) (by rw [e_11_3]; decide) (by rw [e_11_3]; rfl) (by decide) ?_
      refine lv_aload_n hx hb dX5_typist_85 rfl (lv_at hl 0 rfl) ?_
      refine va_get (D := G.1) (ci := 12) (v := .ref (ad 1)) (C := RX5) (T := TX5) (N := 15) hx hb hts in_X5 hown hE.1 hP 0 rfl rfl 0 (by decide) (hts _ q1135) (fun _ h9 => h9) rfl dX5_typist_86 ?_
      refine lv_bipush (v := 7) hx hb dX5_typist_89 (by decide) ?_
      refine lv_iload_n hx hb dX5_typist_91 rfl (lv_at hl 1 rfl) ?_
      refine ol_top (y := nI (cN q)) hq1 ?_
      refine ol_iadd hx hb 7 (cN q) dX5_typist_92 ?_
      refine ol_iald hx hb hE.1 hP 1 0 rfl rfl (7 + (cN q)) (by omega) (by decide) dX5_typist_93 ?_
      exact ol_iretR hx hb hr hlocks rfl (by simp [mTypist, zB, c_5, e_11_0, e_11_1, e_11_2, e_11_3]) dX5_typist_94
    by_cases e_11_4 : x = 4
    · refine lv_tableIn (tgt := 95) (off := 84) hx hb dX5_typist_11 (by rw [e_11_4]; decide) (by rw [e_11_4]; decide) (by rw [e_11_4]; rfl) (by decide) ?_
      refine lv_aload_n hx hb dX5_typist_95 rfl (lv_at hl 0 rfl) ?_
      refine va_get (D := G.1) (ci := 12) (v := .ref (ad 1)) (C := RX5) (T := TX5) (N := 15) hx hb hts in_X5 hown hE.1 hP 0 rfl rfl 0 (by decide) (hts _ q1135) (fun _ h9 => h9) rfl dX5_typist_96 ?_
      refine lv_bipush (v := 10) hx hb dX5_typist_99 (by decide) ?_
      refine lv_iload_n hx hb dX5_typist_101 rfl (lv_at hl 1 rfl) ?_
      refine ol_top (y := nI (cN q)) hq1 ?_
      refine ol_iadd hx hb 10 (cN q) dX5_typist_102 ?_
      refine ol_iald hx hb hE.1 hP 1 0 rfl rfl (10 + (cN q)) (by omega) (by decide) dX5_typist_103 ?_
      exact ol_iretR hx hb hr hlocks rfl (by simp [mTypist, zB, c_5, e_11_0, e_11_1, e_11_2, e_11_3, e_11_4]) dX5_typist_104
    by_cases e_11_5 : x = 5
    · refine lv_tableIn (tgt := 105) (off := 94) hx hb dX5_typist_11 (by rw [e_11_5]; decide) (by rw [e_11_5]; decide) (by rw [e_11_5]; rfl) (by decide) ?_
      refine lv_aload_n hx hb dX5_typist_105 rfl (lv_at hl 0 rfl) ?_
      refine va_get (D := G.1) (ci := 12) (v := .ref (ad 1)) (C := RX5) (T := TX5) (N := 15) hx hb hts in_X5 hown hE.1 hP 0 rfl rfl 0 (by decide) (hts _ q1135) (fun _ h9 => h9) rfl dX5_typist_106 ?_
      refine lv_bipush (v := 12) hx hb dX5_typist_109 (by decide) ?_
      refine lv_iload_n hx hb dX5_typist_111 rfl (lv_at hl 1 rfl) ?_
      refine ol_top (y := nI (cN q)) hq1 ?_
      refine ol_iadd hx hb 12 (cN q) dX5_typist_112 ?_
      refine ol_iald hx hb hE.1 hP 1 0 rfl rfl (12 + (cN q)) (by omega) (by decide) dX5_typist_113 ?_
      exact ol_iretR hx hb hr hlocks rfl (by simp [mTypist, zB, c_5, e_11_0, e_11_1, e_11_2, e_11_3, e_11_4, e_11_5]) dX5_typist_114
    by_cases e_11_6 : x = 6
    · refine lv_tableIn (tgt := 115) (off := 104) hx hb dX5_typist_11 (by rw [e_11_6]; decide) (by rw [e_11_6]; decide) (by rw [e_11_6]; rfl) (by decide) ?_
      refine lv_aload_n hx hb dX5_typist_115 rfl (lv_at hl 0 rfl) ?_
      refine va_get (D := G.1) (ci := 12) (v := .ref (ad 1)) (C := RX5) (T := TX5) (N := 15) hx hb hts in_X5 hown hE.1 hP 0 rfl rfl 0 (by decide) (hts _ q1135) (fun _ h9 => h9) rfl dX5_typist_116 ?_
      refine lv_bipush (v := 17) hx hb dX5_typist_119 (by decide) ?_
      refine lv_iload_n hx hb dX5_typist_121 rfl (lv_at hl 1 rfl) ?_
      refine ol_top (y := nI (cN q)) hq1 ?_
      refine ol_iadd hx hb 17 (cN q) dX5_typist_122 ?_
      refine ol_iald hx hb hE.1 hP 1 0 rfl rfl (17 + (cN q)) (by omega) (by decide) dX5_typist_123 ?_
      exact ol_iretR hx hb hr hlocks rfl (by simp [mTypist, zB, c_5, e_11_0, e_11_1, e_11_2, e_11_3, e_11_4, e_11_5, e_11_6]) dX5_typist_124
    by_cases e_11_7 : x = 7
    · refine lv_tableIn (tgt := 125) (off := 114) hx hb dX5_typist_11 (by rw [e_11_7]; decide) (by rw [e_11_7]; decide) (by rw [e_11_7]; rfl) (by decide) ?_
      refine lv_aload_n hx hb dX5_typist_125 rfl (lv_at hl 0 rfl) ?_
      refine va_get (D := G.1) (ci := 12) (v := .ref (ad 1)) (C := RX5) (T := TX5) (N := 15) hx hb hts in_X5 hown hE.1 hP 0 rfl rfl 0 (by decide) (hts _ q1135) (fun _ h9 => h9) rfl dX5_typist_126 ?_
      refine lv_iconst (v := 3) hx hb dX5_typist_129 (by decide) ?_
      refine lv_iload_n hx hb dX5_typist_130 rfl (lv_at hl 1 rfl) ?_
      refine ol_top (y := nI (cN q)) hq1 ?_
      refine ol_iadd hx hb 3 (cN q) dX5_typist_131 ?_
      refine ol_iald hx hb hE.1 hP 1 0 rfl rfl (3 + (cN q)) (by omega) (by decide) dX5_typist_132 ?_
      exact ol_iretR hx hb hr hlocks rfl (by simp [mTypist, zB, c_5, e_11_0, e_11_1, e_11_2, e_11_3, e_11_4, e_11_5, e_11_6, e_11_7]) dX5_typist_133
    refine lv_tableOut (tgt := 134) hx hb dX5_typist_11 (sw_out (n := 8) (by decide) (fun k hk => by
      rcases (show k = 0 ∨ k = 1 ∨ k = 2 ∨ k = 3 ∨ k = 4 ∨ k = 5 ∨ k = 6 ∨ k = 7 by omega) with rfl | rfl | rfl | rfl | rfl | rfl | rfl | rfl
      · exact e_11_0
      · exact e_11_1
      · exact e_11_2
      · exact e_11_3
      · exact e_11_4
      · exact e_11_5
      · exact e_11_6
      · exact e_11_7
      )) (by decide) ?_
    refine lv_bipush (v := (-2)) hx hb dX5_typist_134 (by decide) ?_
    exact ol_iretR hx hb hr hlocks rfl (by simp [mTypist, zB, c_5, e_11_0, e_11_1, e_11_2, e_11_3, e_11_4, e_11_5, e_11_6, e_11_7]) dX5_typist_136
  · refine lv_iconst (v := (-1)) hx hb dX5_typist_8 (by decide) ?_
    exact ol_iretR hx hb hr hlocks rfl (by simp [mTypist, zB, c_5]) dX5_typist_9
set_option maxHeartbeats 4000000 in
set_option maxRecDepth 100000 in
theorem mr_style (l : Launch) (G : oG) (ad : Nat → Nat) (iS : Int32) (iA : Int32) (iL : Int32) (iT : Int32) (iC : Int32) (iR : Int32) (r : Nat → Int32) (pr : Nat → Int32) (ar : Nat → Int32) (br : Nat → Int32) (f : Nat → UInt32) (pf : Nat → UInt32) (af : Nat → UInt32) (bf : Nat → UInt32) (tx : Nat → Int32) (q : Int32) (x : Int32)   : Met l yX5_style (ws_ yX5_style cX5_style 3 (some .float)) ({ frames := 2, cells := 0, slots := 0, locals := 43 }) (oPc G [.ref (ad 0), .int q, .int x] (fun H => va_P G.1 cl0 (mW G ad iS iA iL iT iC iR r pr ar br f pf af bf tx) H)) (oR (some (.float (mStyle f q x)))) 0 0 (fun _ => False) := by
  refine Met.ofW (cc := cX5_style) (maxL := 3) (ret := (some .float)) (by decide) rfl ?_
  intro p e s m args below meth c s₁ B hml hv
  obtain ⟨rfl, hP, hE⟩ := hv
  have hx := B.exec
  have hb := B.bytes
  have hr := B.returns
  have hts := atoms_spec (ws := ws_ yX5_style cX5_style 3 (some .float)) B.pre
  have hts : ∀ w ∈ lw_all, w.before _ s = true := fun w h => hts w (List.mem_cons_of_mem _ h)
  have hown : s.vm.findClass RX5 = some m.cls := findClass_of_methodNamed B.named
  have hlocks := B.notSynchronized
  have hl := lv_entry ([.ref (ad 0), .int q, .int x]) (n := 3) (Nat.le_of_ble_eq_true rfl)
  rw [lg_entry_eq]
  generalize (lg_sl ([.ref (ad 0), .int q, .int x]) ++ List.replicate (3 - (lg_sl ([.ref (ad 0), .int q, .int x])).length) Slot.unset).toArray = ls at hl ⊢
  replace hl : lv_has ls 3 [(0, .ref (ad 0)), (1, .int q), (2, .int x)] := hl
  refine lv_aload_n hx hb dX5_style_0 rfl (lv_at hl 0 rfl) ?_
  refine lv_iload_n hx hb dX5_style_1 rfl (lv_at hl 1 rfl) ?_
  refine ol_cR (st1 := [.int (zB (noT q))]) (va_runV (As := [.int q]) (rest := []) ⟨hx, hb, hml, hown, hts⟩ (mr_noTypist l G ad iS iA iL iT iC iR r pr ar br f pf af bf tx q ) (cwV 1 hts (lw_V q1241 q1243 qs30 q73 q1244) rfl rfl rfl (by decide +kernel) ⟨Nat.le_of_ble_eq_true rfl, Nat.le_of_ble_eq_true rfl⟩) (oPc.preV hE (hE.recv (ci := 12) (hP 0 _ rfl) rfl) hP) rfl rfl hl.1 rfl (lv_room (Nat.le_of_ble_eq_true rfl)) dX5_style_2 ⟨Nat.le_of_ble_eq_true rfl, Nat.le_of_ble_eq_true rfl⟩) rfl ?_
  refine ol_if_neB hx hb (noT q) (tgt := 17) dX5_style_5 (by decide) (fun c_5 => ?_) (fun c_5 => ?_)
  · refine lv_ldcf hx hb hown (hts _ q1399) dX5_style_17 ?_
    refine lv_goto (tgt := 32) hx hb dX5_style_19 (by decide) ?_
    exact ol_fretR hx hb hr hlocks rfl (by simp [mStyle, zB, c_5]) dX5_style_32
  · obtain ⟨hq2, hq1⟩ := noT_f (c_5)
    refine lv_iload_n hx hb dX5_style_8 rfl (lv_at hl 2 rfl) ?_
    refine lv_iconst (v := 0) hx hb dX5_style_9 (by decide) ?_
    refine lv_iconst (v := 1) hx hb dX5_style_10 (by decide) ?_
    refine ol_cR (st1 := [.int (zB (inR x 0 1))]) (va_runS (As := [.int x, .int 0, .int 1]) (rest := []) ⟨hx, hb, hml, hown, hts⟩ (mr_in l G x 0 1 ) (va_cwS 3 hts (lw_S q1210 q1211 q73 q1212) rfl rfl rfl (by decide +kernel) ⟨Nat.le_of_ble_eq_true rfl, Nat.le_of_ble_eq_true rfl⟩) (oPc.preS hE trivial) rfl rfl hl.1 rfl (lv_room (Nat.le_of_ble_eq_true rfl)) dX5_style_11 ⟨Nat.le_of_ble_eq_true rfl, Nat.le_of_ble_eq_true rfl⟩) rfl ?_
    refine ol_if_neB hx hb (inR x 0 1) (tgt := 22) dX5_style_14 (by decide) (fun c_14 => ?_) (fun c_14 => ?_)
    · obtain ⟨hx2, hx1⟩ := noT_f (show noT x = false by simp [noT, c_14])
      refine lv_aload_n hx hb dX5_style_22 rfl (lv_at hl 0 rfl) ?_
      refine va_get (D := G.1) (ci := 12) (v := .ref (ad 5)) (C := RX5) (T := TX5) (N := 15) hx hb hts in_X5 hown hE.1 hP 0 rfl rfl 4 (by decide) (hts _ q1139) (fun _ h9 => h9) rfl dX5_style_23 ?_
      refine lv_iconst (v := 2) hx hb dX5_style_26 (by decide) ?_
      refine lv_iload_n hx hb dX5_style_27 rfl (lv_at hl 2 rfl) ?_
      refine ol_top (y := nI (cN x)) hx1 ?_
      refine ol_imul hx hb 2 (cN x) dX5_style_28 ?_
      refine lv_iload_n hx hb dX5_style_29 rfl (lv_at hl 1 rfl) ?_
      refine ol_top (y := nI (cN q)) hq1 ?_
      refine ol_iadd hx hb (2 * (cN x)) (cN q) dX5_style_30 ?_
      refine ol_fald hx hb hE.1 hP 5 2 rfl rfl (2 * (cN x) + (cN q)) (by omega) (by decide) dX5_style_31 ?_
      exact ol_fretR hx hb hr hlocks rfl (by simp [mStyle, zB, c_5, c_14]) dX5_style_32
    · refine lv_ldcf hx hb hown (hts _ q1399) dX5_style_17 ?_
      refine lv_goto (tgt := 32) hx hb dX5_style_19 (by decide) ?_
      exact ol_fretR hx hb hr hlocks rfl (by simp [mStyle, zB, c_5, c_14]) dX5_style_32
set_option maxHeartbeats 4000000 in
set_option maxRecDepth 100000 in
theorem mr_hundredths (l : Launch) (G : oG) (ad : Nat → Nat) (iS : Int32) (iA : Int32) (iL : Int32) (iT : Int32) (iC : Int32) (iR : Int32) (r : Nat → Int32) (pr : Nat → Int32) (ar : Nat → Int32) (br : Nat → Int32) (f : Nat → UInt32) (pf : Nat → UInt32) (af : Nat → UInt32) (bf : Nat → UInt32) (tx : Nat → Int32) (q : Int32) (x : Int32)  (hm : mFo f) : Met l yX5_hundredths (ws_ yX5_hundredths cX5_hundredths 3 (some .int)) ({ frames := 2, cells := 0, slots := 0, locals := 43 }) (oPc G [.ref (ad 0), .int q, .int x] (fun H => va_P G.1 cl0 (mW G ad iS iA iL iT iC iR r pr ar br f pf af bf tx) H)) (oR (some (.int (mHund f q x)))) 0 0 (fun _ => False) := by
  refine Met.ofW (cc := cX5_hundredths) (maxL := 3) (ret := (some .int)) (by decide) rfl ?_
  intro p e s m args below meth c s₁ B hml hv
  obtain ⟨rfl, hP, hE⟩ := hv
  have hx := B.exec
  have hb := B.bytes
  have hr := B.returns
  have hts := atoms_spec (ws := ws_ yX5_hundredths cX5_hundredths 3 (some .int)) B.pre
  have hts : ∀ w ∈ lw_all, w.before _ s = true := fun w h => hts w (List.mem_cons_of_mem _ h)
  have hown : s.vm.findClass RX5 = some m.cls := findClass_of_methodNamed B.named
  have hlocks := B.notSynchronized
  have hl := lv_entry ([.ref (ad 0), .int q, .int x]) (n := 3) (Nat.le_of_ble_eq_true rfl)
  rw [lg_entry_eq]
  generalize (lg_sl ([.ref (ad 0), .int q, .int x]) ++ List.replicate (3 - (lg_sl ([.ref (ad 0), .int q, .int x])).length) Slot.unset).toArray = ls at hl ⊢
  replace hl : lv_has ls 3 [(0, .ref (ad 0)), (1, .int q), (2, .int x)] := hl
  refine lv_aload_n hx hb dX5_hundredths_0 rfl (lv_at hl 0 rfl) ?_
  refine lv_iload_n hx hb dX5_hundredths_1 rfl (lv_at hl 1 rfl) ?_
  refine ol_cR (st1 := [.int (zB (noT q))]) (va_runV (As := [.int q]) (rest := []) ⟨hx, hb, hml, hown, hts⟩ (mr_noTypist l G ad iS iA iL iT iC iR r pr ar br f pf af bf tx q ) (cwV 1 hts (lw_V q1241 q1243 qs30 q73 q1244) rfl rfl rfl (by decide +kernel) ⟨Nat.le_of_ble_eq_true rfl, Nat.le_of_ble_eq_true rfl⟩) (oPc.preV hE (hE.recv (ci := 12) (hP 0 _ rfl) rfl) hP) rfl rfl hl.1 rfl (lv_room (Nat.le_of_ble_eq_true rfl)) dX5_hundredths_2 ⟨Nat.le_of_ble_eq_true rfl, Nat.le_of_ble_eq_true rfl⟩) rfl ?_
  refine ol_if_eqB hx hb (noT q) (tgt := 10) dX5_hundredths_5 (by decide) (fun c_5 => ?_) (fun c_5 => ?_)
  · obtain ⟨hq2, hq1⟩ := noT_f (c_5)
    refine lv_iload_n hx hb dX5_hundredths_10 rfl (lv_at hl 2 rfl) ?_
    refine lv_iconst (v := 0) hx hb dX5_hundredths_11 (by decide) ?_
    refine lv_iconst (v := 1) hx hb dX5_hundredths_12 (by decide) ?_
    refine ol_cR (st1 := [.int (zB (inR x 0 1))]) (va_runS (As := [.int x, .int 0, .int 1]) (rest := []) ⟨hx, hb, hml, hown, hts⟩ (mr_in l G x 0 1 ) (va_cwS 3 hts (lw_S q1210 q1211 q73 q1212) rfl rfl rfl (by decide +kernel) ⟨Nat.le_of_ble_eq_true rfl, Nat.le_of_ble_eq_true rfl⟩) (oPc.preS hE trivial) rfl rfl hl.1 rfl (lv_room (Nat.le_of_ble_eq_true rfl)) dX5_hundredths_13 ⟨Nat.le_of_ble_eq_true rfl, Nat.le_of_ble_eq_true rfl⟩) rfl ?_
    refine ol_if_eqB hx hb (inR x 0 1) (tgt := 36) dX5_hundredths_16 (by decide) (fun c_16 => ?_) (fun c_16 => ?_)
    · refine lv_bipush (v := (-2)) hx hb dX5_hundredths_36 (by decide) ?_
      exact ol_iretR hx hb hr hlocks rfl (by simp [mHund, zB, c_5, c_16]) dX5_hundredths_38
    · obtain ⟨hx2, hx1⟩ := noT_f (show noT x = false by simp [noT, c_16])
      refine lv_aload_n hx hb dX5_hundredths_19 rfl (lv_at hl 0 rfl) ?_
      refine va_get (D := G.1) (ci := 12) (v := .ref (ad 5)) (C := RX5) (T := TX5) (N := 15) hx hb hts in_X5 hown hE.1 hP 0 rfl rfl 4 (by decide) (hts _ q1139) (fun _ h9 => h9) rfl dX5_hundredths_20 ?_
      refine lv_iconst (v := 2) hx hb dX5_hundredths_23 (by decide) ?_
      refine lv_iload_n hx hb dX5_hundredths_24 rfl (lv_at hl 2 rfl) ?_
      refine ol_top (y := nI (cN x)) hx1 ?_
      refine ol_imul hx hb 2 (cN x) dX5_hundredths_25 ?_
      refine lv_iload_n hx hb dX5_hundredths_26 rfl (lv_at hl 1 rfl) ?_
      refine ol_top (y := nI (cN q)) hq1 ?_
      refine ol_iadd hx hb (2 * (cN x)) (cN q) dX5_hundredths_27 ?_
      refine ol_fald hx hb hE.1 hP 5 2 rfl rfl (2 * (cN x) + (cN q)) (by omega) (by decide) dX5_hundredths_28 ?_
      refine lv_ldcf hx hb hown (hts _ q1404) dX5_hundredths_29 ?_
      refine lv_fmul hx hb dX5_hundredths_31 (fk_hund (mFo_at hm hx2 hq2)) ?_
      refine lv_f2i hx hb dX5_hundredths_32 ?_
      refine lv_goto (tgt := 38) hx hb dX5_hundredths_33 (by decide) ?_
      exact ol_iretR hx hb hr hlocks rfl (by simp [mHund, zB, c_5, c_16]) dX5_hundredths_38
  · refine lv_iconst (v := (-1)) hx hb dX5_hundredths_8 (by decide) ?_
    exact ol_iretR hx hb hr hlocks rfl (by simp [mHund, zB, c_5]) dX5_hundredths_9
set_option maxHeartbeats 4000000 in
set_option maxRecDepth 100000 in
theorem mr_typed (l : Launch) (G : oG) (ad : Nat → Nat) (iS : Int32) (iA : Int32) (iL : Int32) (iT : Int32) (iC : Int32) (iR : Int32) (r : Nat → Int32) (pr : Nat → Int32) (ar : Nat → Int32) (br : Nat → Int32) (f : Nat → UInt32) (pf : Nat → UInt32) (af : Nat → UInt32) (bf : Nat → UInt32) (tx : Nat → Int32) (q : Int32) (b : Int32)  (hty : mTy r) : Met l yX5_typed (ws_ yX5_typed cX5_typed 4 (some .int)) ({ frames := 2, cells := 0, slots := 0, locals := 43 }) (oPc G [.ref (ad 0), .int q, .int b] (fun H => va_P G.1 cl0 (mW G ad iS iA iL iT iC iR r pr ar br f pf af bf tx) H)) (oR (some (.int (mTyped r q b)))) 0 0 (fun _ => False) := by
  refine Met.ofW (cc := cX5_typed) (maxL := 4) (ret := (some .int)) (by decide) rfl ?_
  intro p e s m args below meth c s₁ B hml hv
  obtain ⟨rfl, hP, hE⟩ := hv
  have hx := B.exec
  have hb := B.bytes
  have hr := B.returns
  have hts := atoms_spec (ws := ws_ yX5_typed cX5_typed 4 (some .int)) B.pre
  have hts : ∀ w ∈ lw_all, w.before _ s = true := fun w h => hts w (List.mem_cons_of_mem _ h)
  have hown : s.vm.findClass RX5 = some m.cls := findClass_of_methodNamed B.named
  have hlocks := B.notSynchronized
  have hl := lv_entry ([.ref (ad 0), .int q, .int b]) (n := 4) (Nat.le_of_ble_eq_true rfl)
  rw [lg_entry_eq]
  generalize (lg_sl ([.ref (ad 0), .int q, .int b]) ++ List.replicate (4 - (lg_sl ([.ref (ad 0), .int q, .int b])).length) Slot.unset).toArray = ls at hl ⊢
  replace hl : lv_has ls 4 [(0, .ref (ad 0)), (1, .int q), (2, .int b)] := hl
  refine lv_aload_n hx hb dX5_typed_0 rfl (lv_at hl 0 rfl) ?_
  refine lv_iload_n hx hb dX5_typed_1 rfl (lv_at hl 1 rfl) ?_
  refine ol_cR (st1 := [.int (zB (noT q))]) (va_runV (As := [.int q]) (rest := []) ⟨hx, hb, hml, hown, hts⟩ (mr_noTypist l G ad iS iA iL iT iC iR r pr ar br f pf af bf tx q ) (cwV 1 hts (lw_V q1241 q1243 qs30 q73 q1244) rfl rfl rfl (by decide +kernel) ⟨Nat.le_of_ble_eq_true rfl, Nat.le_of_ble_eq_true rfl⟩) (oPc.preV hE (hE.recv (ci := 12) (hP 0 _ rfl) rfl) hP) rfl rfl hl.1 rfl (lv_room (Nat.le_of_ble_eq_true rfl)) dX5_typed_2 ⟨Nat.le_of_ble_eq_true rfl, Nat.le_of_ble_eq_true rfl⟩) rfl ?_
  refine ol_if_eqB hx hb (noT q) (tgt := 10) dX5_typed_5 (by decide) (fun c_5 => ?_) (fun c_5 => ?_)
  · obtain ⟨hq2, hq1⟩ := noT_f (c_5)
    refine lv_iload_n hx hb dX5_typed_10 rfl (lv_at hl 2 rfl) ?_
    refine lv_if_ge (tgt := 17) hx hb dX5_typed_11 (by decide) (fun c_11 => ?_) (fun c_11 => ?_)
    · obtain ⟨hb1, hb2⟩ := nn_of (Int32.not_lt.mpr c_11)
      refine lv_aload_n hx hb dX5_typed_17 rfl (lv_at hl 0 rfl) ?_
      refine va_get (D := G.1) (ci := 12) (v := .ref (ad 1)) (C := RX5) (T := TX5) (N := 15) hx hb hts in_X5 hown hE.1 hP 0 rfl rfl 0 (by decide) (hts _ q1135) (fun _ h9 => h9) rfl dX5_typed_18 ?_
      refine lv_bipush (v := 17) hx hb dX5_typed_21 (by decide) ?_
      refine lv_iload_n hx hb dX5_typed_23 rfl (lv_at hl 1 rfl) ?_
      refine ol_top (y := nI (cN q)) hq1 ?_
      refine ol_iadd hx hb 17 (cN q) dX5_typed_24 ?_
      refine ol_iald hx hb hE.1 hP 1 0 rfl rfl (17 + (cN q)) (by omega) (by decide) dX5_typed_25 ?_
      obtain ⟨hn1, hn2⟩ := nn_of (hty _ hq2)
      refine ol_top (y := nI (cN (r (17 + cN q)))) hn1 ?_
      refine lv_istore_n (lv' := [(3, .int (nI (cN (r (17 + cN q))))), (0, .ref (ad 0)), (1, .int q), (2, .int b)]) hx hb dX5_typed_26 rfl hl (by decide) rfl (fun ls hl => ?_)
      refine lv_iload_n hx hb dX5_typed_27 rfl (lv_at hl 3 rfl) ?_
      refine ol_top (y := nI (cN b)) hb1 ?_
      refine lv_iload_n hx hb dX5_typed_28 rfl (lv_at hl 0 rfl) ?_
      refine ol_icmp_ge hx hb (cN b) (cN (r (17 + cN q))) (by omega) (by omega) (tgt := 63) dX5_typed_29 (by decide) (fun c_29 => ?_) (fun c_29 => ?_)
      · refine lv_bipush (v := (-5)) hx hb dX5_typed_63 (by decide) ?_
        exact ol_iretR hx hb hr hlocks rfl (by simp [mTyped, c_5, c_11, Int32.not_lt.mpr c_11, c_29, Nat.not_lt.mpr c_29] <;> omega) dX5_typed_65
      · refine lv_iload_n hx hb dX5_typed_32 rfl (lv_at hl 3 rfl) ?_
        refine ol_top (y := nI (cN b)) hb1 ?_
        refine lv_bipush (v := 24) hx hb dX5_typed_33 (by decide) ?_
        refine ol_icmp_ge hx hb (cN b) 24 (by omega) (by omega) (tgt := 63) dX5_typed_35 (by decide) (fun c_35 => ?_) (fun c_35 => ?_)
        · refine lv_bipush (v := (-5)) hx hb dX5_typed_63 (by decide) ?_
          exact ol_iretR hx hb hr hlocks rfl (by simp [mTyped, c_5, c_11, Int32.not_lt.mpr c_11, c_29, Nat.not_le.mpr c_29, c_35, Nat.not_lt.mpr c_35] <;> omega) dX5_typed_65
        · refine lv_aload_n hx hb dX5_typed_38 rfl (lv_at hl 1 rfl) ?_
          refine va_get (D := G.1) (ci := 12) (v := .ref (ad 1)) (C := RX5) (T := TX5) (N := 15) hx hb hts in_X5 hown hE.1 hP 0 rfl rfl 0 (by decide) (hts _ q1135) (fun _ h9 => h9) rfl dX5_typed_39 ?_
          refine lv_sipush (v := 544) hx hb dX5_typed_42 (by decide) ?_
          refine lv_bipush (v := 24) hx hb dX5_typed_45 (by decide) ?_
          refine lv_iload_n hx hb dX5_typed_47 rfl (lv_at hl 2 rfl) ?_
          refine ol_top (y := nI (cN q)) hq1 ?_
          refine ol_imul hx hb 24 (cN q) dX5_typed_48 ?_
          refine ol_iadd hx hb 544 (24 * (cN q)) dX5_typed_49 ?_
          refine lv_iload_n hx hb dX5_typed_50 rfl (lv_at hl 0 rfl) ?_
          refine lv_iconst (v := 1) hx hb dX5_typed_51 (by decide) ?_
          refine ol_isub hx hb (cN (r (17 + cN q))) 1 (by omega) dX5_typed_52 ?_
          refine lv_iload_n hx hb dX5_typed_53 rfl (lv_at hl 3 rfl) ?_
          refine ol_top (y := nI (cN b)) hb1 ?_
          refine ol_isub hx hb (cN (r (17 + cN q)) - 1) (cN b) (by omega) dX5_typed_54 ?_
          refine lv_bipush (v := 24) hx hb dX5_typed_55 (by decide) ?_
          refine ol_irem hx hb ((cN (r (17 + cN q)) - 1) - (cN b)) 24 (by omega) (by omega) (by omega) dX5_typed_57 ?_
          refine ol_iadd hx hb (544 + (24 * (cN q))) (((cN (r (17 + cN q)) - 1) - (cN b)) % 24) dX5_typed_58 ?_
          refine ol_iald hx hb hE.1 hP 1 0 rfl rfl (544 + (24 * (cN q)) + (((cN (r (17 + cN q)) - 1) - (cN b)) % 24)) (by omega) (by decide) dX5_typed_59 ?_
          refine lv_goto (tgt := 65) hx hb dX5_typed_60 (by decide) ?_
          exact ol_iretR hx hb hr hlocks rfl (by simp [mTyped, c_5, c_11, Int32.not_lt.mpr c_11, c_29, Nat.not_le.mpr c_29, c_35, Nat.not_le.mpr c_35] <;> omega) dX5_typed_65
    · refine lv_bipush (v := (-2)) hx hb dX5_typed_14 (by decide) ?_
      exact ol_iretR hx hb hr hlocks rfl (by simp [mTyped, c_5, c_11, Int32.not_le.mp c_11] <;> omega) dX5_typed_16
  · refine lv_iconst (v := (-1)) hx hb dX5_typed_8 (by decide) ?_
    exact ol_iretR hx hb hr hlocks rfl (by simp [mTyped, c_5] <;> omega) dX5_typed_9
set_option maxHeartbeats 4000000 in
set_option maxRecDepth 100000 in
theorem mr_stroke (l : Launch) (G : oG) (ad : Nat → Nat) (iS : Int32) (iA : Int32) (iL : Int32) (iT : Int32) (iC : Int32) (iR : Int32) (r : Nat → Int32) (pr : Nat → Int32) (ar : Nat → Int32) (br : Nat → Int32) (f : Nat → UInt32) (pf : Nat → UInt32) (af : Nat → UInt32) (bf : Nat → UInt32) (tx : Nat → Int32) (b : Int32) (x : Int32)  (hen : ¬ r 9 < 0) : Met l yX5_stroke (ws_ yX5_stroke cX5_stroke 4 (some .int)) ({ frames := 1, cells := 0, slots := 0, locals := 22 }) (oPc G [.ref (ad 0), .int b, .int x] (fun H => va_P G.1 cl0 (mW G ad iS iA iL iT iC iR r pr ar br f pf af bf tx) H)) (oR (some (.int (mStroke r b x)))) 0 0 (fun _ => False) := by
  refine Met.ofW (cc := cX5_stroke) (maxL := 4) (ret := (some .int)) (by decide) rfl ?_
  intro p e s m args below meth c s₁ B hml hv
  obtain ⟨rfl, hP, hE⟩ := hv
  have hx := B.exec
  have hb := B.bytes
  have hr := B.returns
  have hts := atoms_spec (ws := ws_ yX5_stroke cX5_stroke 4 (some .int)) B.pre
  have hts : ∀ w ∈ lw_all, w.before _ s = true := fun w h => hts w (List.mem_cons_of_mem _ h)
  have hown : s.vm.findClass RX5 = some m.cls := findClass_of_methodNamed B.named
  have hlocks := B.notSynchronized
  have hl := lv_entry ([.ref (ad 0), .int b, .int x]) (n := 4) (Nat.le_of_ble_eq_true rfl)
  rw [lg_entry_eq]
  generalize (lg_sl ([.ref (ad 0), .int b, .int x]) ++ List.replicate (4 - (lg_sl ([.ref (ad 0), .int b, .int x])).length) Slot.unset).toArray = ls at hl ⊢
  replace hl : lv_has ls 4 [(0, .ref (ad 0)), (1, .int b), (2, .int x)] := hl
  refine lv_iload_n hx hb dX5_stroke_0 rfl (lv_at hl 1 rfl) ?_
  refine lv_if_lt (tgt := 13) hx hb dX5_stroke_1 (by decide) (fun c_1 => ?_) (fun c_1 => ?_)
  · refine lv_bipush (v := (-2)) hx hb dX5_stroke_13 (by decide) ?_
    exact ol_iretR hx hb hr hlocks rfl (by simp [mStroke, c_1, Int32.not_le.mpr c_1] <;> omega) dX5_stroke_15
  · obtain ⟨hb1, hb2⟩ := nn_of c_1
    refine lv_iload_n hx hb dX5_stroke_4 rfl (lv_at hl 2 rfl) ?_
    refine lv_iconst (v := 0) hx hb dX5_stroke_5 (by decide) ?_
    refine lv_iconst (v := 5) hx hb dX5_stroke_6 (by decide) ?_
    refine ol_cR (st1 := [.int (zB (inR x 0 5))]) (va_runS (As := [.int x, .int 0, .int 5]) (rest := []) ⟨hx, hb, hml, hown, hts⟩ (mr_in l G x 0 5 ) (va_cwS 3 hts (lw_S q1210 q1211 q73 q1212) rfl rfl rfl (by decide +kernel) ⟨Nat.le_of_ble_eq_true rfl, Nat.le_of_ble_eq_true rfl⟩) (oPc.preS hE trivial) rfl rfl hl.1 rfl (lv_room (Nat.le_of_ble_eq_true rfl)) dX5_stroke_7 ⟨Nat.le_of_ble_eq_true rfl, Nat.le_of_ble_eq_true rfl⟩) rfl ?_
    refine ol_if_neB hx hb (inR x 0 5) (tgt := 16) dX5_stroke_10 (by decide) (fun c_10 => ?_) (fun c_10 => ?_)
    · obtain ⟨hx2, hx1⟩ := inR_n (n := 6) (by decide) (show inR x 0 5 = true from c_10)
      refine lv_aload_n hx hb dX5_stroke_16 rfl (lv_at hl 0 rfl) ?_
      refine va_get (D := G.1) (ci := 12) (v := .ref (ad 1)) (C := RX5) (T := TX5) (N := 15) hx hb hts in_X5 hown hE.1 hP 0 rfl rfl 0 (by decide) (hts _ q1135) (fun _ h9 => h9) rfl dX5_stroke_17 ?_
      refine lv_bipush (v := 9) hx hb dX5_stroke_20 (by decide) ?_
      refine ol_iald hx hb hE.1 hP 1 0 rfl rfl 9 (by decide) (by decide) dX5_stroke_22 ?_
      obtain ⟨hn1, hn2⟩ := nn_of hen
      refine ol_top (y := nI (cN (r 9))) hn1 ?_
      refine lv_istore_n (lv' := [(3, .int (nI (cN (r 9)))), (0, .ref (ad 0)), (1, .int b), (2, .int x)]) hx hb dX5_stroke_23 rfl hl (by decide) rfl (fun ls hl => ?_)
      refine lv_iload_n hx hb dX5_stroke_24 rfl (lv_at hl 2 rfl) ?_
      refine ol_top (y := nI (cN b)) hb1 ?_
      refine lv_iload_n hx hb dX5_stroke_25 rfl (lv_at hl 0 rfl) ?_
      refine ol_icmp_ge hx hb (cN b) (cN (r 9)) (by omega) (by omega) (tgt := 60) dX5_stroke_26 (by decide) (fun c_26 => ?_) (fun c_26 => ?_)
      · refine lv_bipush (v := (-5)) hx hb dX5_stroke_60 (by decide) ?_
        exact ol_iretR hx hb hr hlocks rfl (by simp [mStroke, c_1, Int32.not_lt.mp c_1, c_10, c_26, Nat.not_lt.mpr c_26] <;> omega) dX5_stroke_62
      · refine lv_iload_n hx hb dX5_stroke_29 rfl (lv_at hl 2 rfl) ?_
        refine ol_top (y := nI (cN b)) hb1 ?_
        refine lv_bipush (v := 16) hx hb dX5_stroke_30 (by decide) ?_
        refine ol_icmp_ge hx hb (cN b) 16 (by omega) (by omega) (tgt := 60) dX5_stroke_32 (by decide) (fun c_32 => ?_) (fun c_32 => ?_)
        · refine lv_bipush (v := (-5)) hx hb dX5_stroke_60 (by decide) ?_
          exact ol_iretR hx hb hr hlocks rfl (by simp [mStroke, c_1, Int32.not_lt.mp c_1, c_10, c_26, Nat.not_le.mpr c_26, c_32, Nat.not_lt.mpr c_32] <;> omega) dX5_stroke_62
        · refine lv_aload_n hx hb dX5_stroke_35 rfl (lv_at hl 1 rfl) ?_
          refine va_get (D := G.1) (ci := 12) (v := .ref (ad 1)) (C := RX5) (T := TX5) (N := 15) hx hb hts in_X5 hown hE.1 hP 0 rfl rfl 0 (by decide) (hts _ q1135) (fun _ h9 => h9) rfl dX5_stroke_36 ?_
          refine lv_sipush (v := 308) hx hb dX5_stroke_39 (by decide) ?_
          refine lv_bipush (v := 6) hx hb dX5_stroke_42 (by decide) ?_
          refine lv_iload_n hx hb dX5_stroke_44 rfl (lv_at hl 0 rfl) ?_
          refine lv_iconst (v := 1) hx hb dX5_stroke_45 (by decide) ?_
          refine ol_isub hx hb (cN (r 9)) 1 (by omega) dX5_stroke_46 ?_
          refine lv_iload_n hx hb dX5_stroke_47 rfl (lv_at hl 2 rfl) ?_
          refine ol_top (y := nI (cN b)) hb1 ?_
          refine ol_isub hx hb (cN (r 9) - 1) (cN b) (by omega) dX5_stroke_48 ?_
          refine lv_bipush (v := 16) hx hb dX5_stroke_49 (by decide) ?_
          refine ol_irem hx hb ((cN (r 9) - 1) - (cN b)) 16 (by omega) (by omega) (by omega) dX5_stroke_51 ?_
          refine ol_imul hx hb 6 (((cN (r 9) - 1) - (cN b)) % 16) dX5_stroke_52 ?_
          refine ol_iadd hx hb 308 (6 * (((cN (r 9) - 1) - (cN b)) % 16)) dX5_stroke_53 ?_
          refine lv_iload_n hx hb dX5_stroke_54 rfl (lv_at hl 3 rfl) ?_
          refine ol_top (y := nI (cN x)) hx1 ?_
          refine ol_iadd hx hb (308 + (6 * (((cN (r 9) - 1) - (cN b)) % 16))) (cN x) dX5_stroke_55 ?_
          refine ol_iald hx hb hE.1 hP 1 0 rfl rfl (308 + (6 * (((cN (r 9) - 1) - (cN b)) % 16)) + (cN x)) (by omega) (by decide) dX5_stroke_56 ?_
          refine lv_goto (tgt := 62) hx hb dX5_stroke_57 (by decide) ?_
          exact ol_iretR hx hb hr hlocks rfl (by simp [mStroke, c_1, Int32.not_lt.mp c_1, c_10, c_26, Nat.not_le.mpr c_26, c_32, Nat.not_le.mpr c_32] <;> omega) dX5_stroke_62
    · refine lv_bipush (v := (-2)) hx hb dX5_stroke_13 (by decide) ?_
      exact ol_iretR hx hb hr hlocks rfl (by simp [mStroke, c_1, Int32.not_lt.mp c_1, c_10] <;> omega) dX5_stroke_15
set_option maxHeartbeats 4000000 in
set_option maxRecDepth 100000 in
theorem mr_dispute (l : Launch) (G : oG) (ad : Nat → Nat) (iS : Int32) (iA : Int32) (iL : Int32) (iT : Int32) (iC : Int32) (iR : Int32) (r : Nat → Int32) (pr : Nat → Int32) (ar : Nat → Int32) (br : Nat → Int32) (f : Nat → UInt32) (pf : Nat → UInt32) (af : Nat → UInt32) (bf : Nat → UInt32) (tx : Nat → Int32) (q : Int32) (x : Int32)  (hdn : ¬ r 16 < 0) (hd20 : cN (r 16) ≤ 20) : Met l yX5_dispute (ws_ yX5_dispute cX5_dispute 3 (some .int)) ({ frames := 2, cells := 0, slots := 0, locals := 43 }) (oPc G [.ref (ad 0), .int q, .int x] (fun H => va_P G.1 cl0 (mW G ad iS iA iL iT iC iR r pr ar br f pf af bf tx) H)) (oR (some (.int (mDisp r q x)))) 0 0 (fun _ => False) := by
  refine Met.ofW (cc := cX5_dispute) (maxL := 3) (ret := (some .int)) (by decide) rfl ?_
  intro p e s m args below meth c s₁ B hml hv
  obtain ⟨rfl, hP, hE⟩ := hv
  have hx := B.exec
  have hb := B.bytes
  have hr := B.returns
  have hts := atoms_spec (ws := ws_ yX5_dispute cX5_dispute 3 (some .int)) B.pre
  have hts : ∀ w ∈ lw_all, w.before _ s = true := fun w h => hts w (List.mem_cons_of_mem _ h)
  have hown : s.vm.findClass RX5 = some m.cls := findClass_of_methodNamed B.named
  have hlocks := B.notSynchronized
  have hl := lv_entry ([.ref (ad 0), .int q, .int x]) (n := 3) (Nat.le_of_ble_eq_true rfl)
  rw [lg_entry_eq]
  generalize (lg_sl ([.ref (ad 0), .int q, .int x]) ++ List.replicate (3 - (lg_sl ([.ref (ad 0), .int q, .int x])).length) Slot.unset).toArray = ls at hl ⊢
  replace hl : lv_has ls 3 [(0, .ref (ad 0)), (1, .int q), (2, .int x)] := hl
  refine lv_aload_n hx hb dX5_dispute_0 rfl (lv_at hl 0 rfl) ?_
  refine lv_iload_n hx hb dX5_dispute_1 rfl (lv_at hl 1 rfl) ?_
  refine ol_cR (st1 := [.int (zB (!inR q 0 (r 16 - 1)))]) (va_runV (As := [.int q]) (rest := []) ⟨hx, hb, hml, hown, hts⟩ (mr_noDispute l G ad iS iA iL iT iC iR r pr ar br f pf af bf tx q ) (cwV 1 hts (lw_V q1347 q1349 qs47 q73 q1350) rfl rfl rfl (by decide +kernel) ⟨Nat.le_of_ble_eq_true rfl, Nat.le_of_ble_eq_true rfl⟩) (oPc.preV hE (hE.recv (ci := 12) (hP 0 _ rfl) rfl) hP) rfl rfl hl.1 rfl (lv_room (Nat.le_of_ble_eq_true rfl)) dX5_dispute_2 ⟨Nat.le_of_ble_eq_true rfl, Nat.le_of_ble_eq_true rfl⟩) rfl ?_
  refine ol_if_eqB hx hb (!inR q 0 (r 16 - 1)) (tgt := 10) dX5_dispute_5 (by decide) (fun c_5 => ?_) (fun c_5 => ?_)
  · obtain ⟨hq2, hq1⟩ := noD_f hdn c_5
    refine lv_iload_n hx hb dX5_dispute_10 rfl (lv_at hl 2 rfl) ?_
    refine lv_iconst (v := 0) hx hb dX5_dispute_11 (by decide) ?_
    refine lv_iconst (v := 4) hx hb dX5_dispute_12 (by decide) ?_
    refine ol_cR (st1 := [.int (zB (inR x 0 4))]) (va_runS (As := [.int x, .int 0, .int 4]) (rest := []) ⟨hx, hb, hml, hown, hts⟩ (mr_in l G x 0 4 ) (va_cwS 3 hts (lw_S q1210 q1211 q73 q1212) rfl rfl rfl (by decide +kernel) ⟨Nat.le_of_ble_eq_true rfl, Nat.le_of_ble_eq_true rfl⟩) (oPc.preS hE trivial) rfl rfl hl.1 rfl (lv_room (Nat.le_of_ble_eq_true rfl)) dX5_dispute_13 ⟨Nat.le_of_ble_eq_true rfl, Nat.le_of_ble_eq_true rfl⟩) rfl ?_
    refine ol_if_eqB hx hb (inR x 0 4) (tgt := 37) dX5_dispute_16 (by decide) (fun c_16 => ?_) (fun c_16 => ?_)
    · refine lv_bipush (v := (-2)) hx hb dX5_dispute_37 (by decide) ?_
      exact ol_iretR hx hb hr hlocks rfl (by simp [mDisp, zB, c_5, c_16]) dX5_dispute_39
    · obtain ⟨hx2, hx1⟩ := inR_n (n := 5) (by decide) (show inR x 0 4 = true from c_16)
      refine lv_aload_n hx hb dX5_dispute_19 rfl (lv_at hl 0 rfl) ?_
      refine va_get (D := G.1) (ci := 12) (v := .ref (ad 1)) (C := RX5) (T := TX5) (N := 15) hx hb hts in_X5 hown hE.1 hP 0 rfl rfl 0 (by decide) (hts _ q1135) (fun _ h9 => h9) rfl dX5_dispute_20 ?_
      refine lv_sipush (v := 404) hx hb dX5_dispute_23 (by decide) ?_
      refine lv_bipush (v := 7) hx hb dX5_dispute_26 (by decide) ?_
      refine lv_iload_n hx hb dX5_dispute_28 rfl (lv_at hl 1 rfl) ?_
      refine ol_top (y := nI (cN q)) hq1 ?_
      refine ol_imul hx hb 7 (cN q) dX5_dispute_29 ?_
      refine ol_iadd hx hb 404 (7 * (cN q)) dX5_dispute_30 ?_
      refine lv_iload_n hx hb dX5_dispute_31 rfl (lv_at hl 2 rfl) ?_
      refine ol_top (y := nI (cN x)) hx1 ?_
      refine ol_iadd hx hb (404 + (7 * (cN q))) (cN x) dX5_dispute_32 ?_
      refine ol_iald hx hb hE.1 hP 1 0 rfl rfl (404 + (7 * (cN q)) + (cN x)) (by omega) (by decide) dX5_dispute_33 ?_
      refine lv_goto (tgt := 39) hx hb dX5_dispute_34 (by decide) ?_
      exact ol_iretR hx hb hr hlocks rfl (by simp [mDisp, zB, c_5, c_16]) dX5_dispute_39
  · refine lv_iconst (v := (-1)) hx hb dX5_dispute_8 (by decide) ?_
    exact ol_iretR hx hb hr hlocks rfl (by simp [mDisp, zB, c_5]) dX5_dispute_9
set_option maxHeartbeats 4000000 in
set_option maxRecDepth 100000 in
theorem mr_distance (l : Launch) (G : oG) (ad : Nat → Nat) (iS : Int32) (iA : Int32) (iL : Int32) (iT : Int32) (iC : Int32) (iR : Int32) (r : Nat → Int32) (pr : Nat → Int32) (ar : Nat → Int32) (br : Nat → Int32) (f : Nat → UInt32) (pf : Nat → UInt32) (af : Nat → UInt32) (bf : Nat → UInt32) (tx : Nat → Int32) (q : Int32) (x : Int32) (v : Int32)  (hm : mFo f) : Met l yX5_distance (ws_ yX5_distance cX5_distance 4 (some .float)) ({ frames := 2, cells := 0, slots := 0, locals := 50 }) (oPc G [.ref (ad 0), .int q, .int x, .int v] (fun H => va_P G.1 cl0 (mW G ad iS iA iL iT iC iR r pr ar br f pf af bf tx) H)) (oR (some (.float (mDist r f q x v)))) 0 0 (fun _ => False) := by
  refine Met.ofW (cc := cX5_distance) (maxL := 4) (ret := (some .float)) (by decide) rfl ?_
  intro p e s m args below meth c s₁ B hml hv
  obtain ⟨rfl, hP, hE⟩ := hv
  have hx := B.exec
  have hb := B.bytes
  have hr := B.returns
  have hts := atoms_spec (ws := ws_ yX5_distance cX5_distance 4 (some .float)) B.pre
  have hts : ∀ w ∈ lw_all, w.before _ s = true := fun w h => hts w (List.mem_cons_of_mem _ h)
  have hown : s.vm.findClass RX5 = some m.cls := findClass_of_methodNamed B.named
  have hlocks := B.notSynchronized
  have hl := lv_entry ([.ref (ad 0), .int q, .int x, .int v]) (n := 4) (Nat.le_of_ble_eq_true rfl)
  rw [lg_entry_eq]
  generalize (lg_sl ([.ref (ad 0), .int q, .int x, .int v]) ++ List.replicate (4 - (lg_sl ([.ref (ad 0), .int q, .int x, .int v])).length) Slot.unset).toArray = ls at hl ⊢
  replace hl : lv_has ls 4 [(0, .ref (ad 0)), (1, .int q), (2, .int x), (3, .int v)] := hl
  refine lv_aload_n hx hb dX5_distance_0 rfl (lv_at hl 0 rfl) ?_
  refine lv_iload_n hx hb dX5_distance_1 rfl (lv_at hl 1 rfl) ?_
  refine ol_cR (st1 := [.int (zB (noT q))]) (va_runV (As := [.int q]) (rest := []) ⟨hx, hb, hml, hown, hts⟩ (mr_noTypist l G ad iS iA iL iT iC iR r pr ar br f pf af bf tx q ) (cwV 1 hts (lw_V q1241 q1243 qs30 q73 q1244) rfl rfl rfl (by decide +kernel) ⟨Nat.le_of_ble_eq_true rfl, Nat.le_of_ble_eq_true rfl⟩) (oPc.preV hE (hE.recv (ci := 12) (hP 0 _ rfl) rfl) hP) rfl rfl hl.1 rfl (lv_room (Nat.le_of_ble_eq_true rfl)) dX5_distance_2 ⟨Nat.le_of_ble_eq_true rfl, Nat.le_of_ble_eq_true rfl⟩) rfl ?_
  refine ol_if_neB hx hb (noT q) (tgt := 23) dX5_distance_5 (by decide) (fun c_5 => ?_) (fun c_5 => ?_)
  · refine lv_ldcf hx hb hown (hts _ q1399) dX5_distance_23 ?_
    refine lv_goto (tgt := 35) hx hb dX5_distance_25 (by decide) ?_
    exact ol_fretR hx hb hr hlocks rfl (by simp [mDist, zB, c_5]) dX5_distance_35
  · obtain ⟨hq2, hq1⟩ := noT_f (c_5)
    refine lv_iload_n hx hb dX5_distance_8 rfl (lv_at hl 2 rfl) ?_
    refine lv_if_lt (tgt := 23) hx hb dX5_distance_9 (by decide) (fun c_9 => ?_) (fun c_9 => ?_)
    · refine lv_ldcf hx hb hown (hts _ q1399) dX5_distance_23 ?_
      refine lv_goto (tgt := 35) hx hb dX5_distance_25 (by decide) ?_
      exact ol_fretR hx hb hr hlocks rfl (by simp [mDist, zB, c_5, c_9, Int32.not_le.mpr c_9]) dX5_distance_35
    · refine lv_iload_n hx hb dX5_distance_12 rfl (lv_at hl 3 rfl) ?_
      refine lv_iconst (v := 0) hx hb dX5_distance_13 (by decide) ?_
      refine lv_sipush (v := 9999) hx hb dX5_distance_14 (by decide) ?_
      refine ol_cR (st1 := [.int (zB (inR v 0 9999))]) (va_runS (As := [.int v, .int 0, .int 9999]) (rest := []) ⟨hx, hb, hml, hown, hts⟩ (mr_in l G v 0 9999 ) (va_cwS 3 hts (lw_S q1210 q1211 q73 q1212) rfl rfl rfl (by decide +kernel) ⟨Nat.le_of_ble_eq_true rfl, Nat.le_of_ble_eq_true rfl⟩) (oPc.preS hE trivial) rfl rfl hl.1 rfl (lv_room (Nat.le_of_ble_eq_true rfl)) dX5_distance_17 ⟨Nat.le_of_ble_eq_true rfl, Nat.le_of_ble_eq_true rfl⟩) rfl ?_
      refine ol_if_neB hx hb (inR v 0 9999) (tgt := 28) dX5_distance_20 (by decide) (fun c_20 => ?_) (fun c_20 => ?_)
      · refine lv_aload_n hx hb dX5_distance_28 rfl (lv_at hl 0 rfl) ?_
        refine lv_iload_n hx hb dX5_distance_29 rfl (lv_at hl 1 rfl) ?_
        refine ol_top (y := nI (cN q)) hq1 ?_
        refine lv_iload_n hx hb dX5_distance_30 rfl (lv_at hl 2 rfl) ?_
        refine lv_iload_n hx hb dX5_distance_31 rfl (lv_at hl 3 rfl) ?_
        refine ol_cR (st1 := [.float (mOff r f (cN q) x v)]) (va_runV (As := [.int (nI (cN q)), .int x, .int v]) (rest := []) ⟨hx, hb, hml, hown, hts⟩ (mr_off l G ad iS iA iL iT iC iR r pr ar br f pf af bf tx (cN q) x v (by omega) hm) (cwV 3 hts (lw_V q1308 q1310 qs39 q73 q1311) rfl rfl rfl (by decide +kernel) ⟨Nat.le_of_ble_eq_true rfl, Nat.le_of_ble_eq_true rfl⟩) (oPc.preV hE (hE.recv (ci := 12) (hP 0 _ rfl) rfl) hP) rfl rfl hl.1 rfl (lv_room (Nat.le_of_ble_eq_true rfl)) dX5_distance_32 ⟨Nat.le_of_ble_eq_true rfl, Nat.le_of_ble_eq_true rfl⟩) rfl ?_
        exact ol_fretR hx hb hr hlocks rfl (by simp [mDist, zB, c_5, c_9, Int32.not_lt.mp c_9, c_20]) dX5_distance_35
      · refine lv_ldcf hx hb hown (hts _ q1399) dX5_distance_23 ?_
        refine lv_goto (tgt := 35) hx hb dX5_distance_25 (by decide) ?_
        exact ol_fretR hx hb hr hlocks rfl (by simp [mDist, zB, c_5, c_9, Int32.not_lt.mp c_9, c_20]) dX5_distance_35
set_option maxHeartbeats 4000000 in
set_option maxRecDepth 100000 in
theorem mr_verdict (l : Launch) (G : oG) (ad : Nat → Nat) (iS : Int32) (iA : Int32) (iL : Int32) (iT : Int32) (iC : Int32) (iR : Int32) (r : Nat → Int32) (pr : Nat → Int32) (ar : Nat → Int32) (br : Nat → Int32) (f : Nat → UInt32) (pf : Nat → UInt32) (af : Nat → UInt32) (bf : Nat → UInt32) (tx : Nat → Int32) (k : Int32) (Rw Cl : Nat) (hg : mG r Rw Cl) (hm : mFo f) : Met l yX5_verdict (ws_ yX5_verdict cX5_verdict 2 (some .int)) ({ frames := 3, cells := 0, slots := 0, locals := 78 }) (oPc G [.ref (ad 0), .int k] (fun H => va_P G.1 cl0 (mW G ad iS iA iL iT iC iR r pr ar br f pf af bf tx) H)) (oR (some (.int (mVerd r f (Rw * Cl) k)))) 0 0 (fun _ => False) := by
  refine Met.ofW (cc := cX5_verdict) (maxL := 2) (ret := (some .int)) (by decide) rfl ?_
  intro p e s m args below meth c s₁ B hml hv
  obtain ⟨rfl, hP, hE⟩ := hv
  have hx := B.exec
  have hb := B.bytes
  have hr := B.returns
  have hts := atoms_spec (ws := ws_ yX5_verdict cX5_verdict 2 (some .int)) B.pre
  have hts : ∀ w ∈ lw_all, w.before _ s = true := fun w h => hts w (List.mem_cons_of_mem _ h)
  have hown : s.vm.findClass RX5 = some m.cls := findClass_of_methodNamed B.named
  have hlocks := B.notSynchronized
  have hl := lv_entry ([.ref (ad 0), .int k]) (n := 2) (Nat.le_of_ble_eq_true rfl)
  rw [lg_entry_eq]
  generalize (lg_sl ([.ref (ad 0), .int k]) ++ List.replicate (2 - (lg_sl ([.ref (ad 0), .int k])).length) Slot.unset).toArray = ls at hl ⊢
  replace hl : lv_has ls 2 [(0, .ref (ad 0)), (1, .int k)] := hl
  have hgn := mG_n hg
  have hg' := hg
  obtain ⟨hg0, hg1, hg2, hg3, hg4, hg5⟩ := hg'
  refine lv_aload_n hx hb dX5_verdict_0 rfl (lv_at hl 0 rfl) ?_
  refine lv_iload_n hx hb dX5_verdict_1 rfl (lv_at hl 1 rfl) ?_
  refine ol_cR (st1 := [.int (zB (noK k (Rw * Cl)))]) (va_runV (As := [.int k]) (rest := []) ⟨hx, hb, hml, hown, hts⟩ (mr_noKey l G ad iS iA iL iT iC iR r pr ar br f pf af bf tx k Rw Cl hg) (cwV 1 hts (lw_V q1229 q1231 qs28 q73 q1232) rfl rfl rfl (by decide +kernel) ⟨Nat.le_of_ble_eq_true rfl, Nat.le_of_ble_eq_true rfl⟩) (oPc.preV hE (hE.recv (ci := 12) (hP 0 _ rfl) rfl) hP) rfl rfl hl.1 rfl (lv_room (Nat.le_of_ble_eq_true rfl)) dX5_verdict_2 ⟨Nat.le_of_ble_eq_true rfl, Nat.le_of_ble_eq_true rfl⟩) rfl ?_
  refine ol_if_eqB hx hb (noK k (Rw * Cl)) (tgt := 10) dX5_verdict_5 (by decide) (fun c_5 => ?_) (fun c_5 => ?_)
  · obtain ⟨hk1, hk2⟩ := noK_f (c_5) (by omega) (by omega)
    refine lv_aload_n hx hb dX5_verdict_10 rfl (lv_at hl 0 rfl) ?_
    refine lv_iload_n hx hb dX5_verdict_11 rfl (lv_at hl 1 rfl) ?_
    refine ol_top (y := nI (cN k)) hk2 ?_
    refine ol_cR (st1 := [.int (zB (sn r (cN k)))]) (va_runV (As := [.int (nI (cN k))]) (rest := []) ⟨hx, hb, hml, hown, hts⟩ (mr_isSeen l G ad iS iA iL iT iC iR r pr ar br f pf af bf tx (cN k) (by omega)) (cwV 1 hts (lw_V q1221 q1223 qs27 q73 q1224) rfl rfl rfl (by decide +kernel) ⟨Nat.le_of_ble_eq_true rfl, Nat.le_of_ble_eq_true rfl⟩) (oPc.preV hE (hE.recv (ci := 12) (hP 0 _ rfl) rfl) hP) rfl rfl hl.1 rfl (lv_room (Nat.le_of_ble_eq_true rfl)) dX5_verdict_12 ⟨Nat.le_of_ble_eq_true rfl, Nat.le_of_ble_eq_true rfl⟩) rfl ?_
    refine ol_if_eqB hx hb (sn r (cN k)) (tgt := 26) dX5_verdict_15 (by decide) (fun c_15 => ?_) (fun c_15 => ?_)
    · refine lv_bipush (v := (-5)) hx hb dX5_verdict_26 (by decide) ?_
      exact ol_iretR hx hb hr hlocks rfl (by simp [mVerd, zB, c_5, c_15]) dX5_verdict_28
    · refine lv_aload_n hx hb dX5_verdict_18 rfl (lv_at hl 0 rfl) ?_
      refine lv_iload_n hx hb dX5_verdict_19 rfl (lv_at hl 1 rfl) ?_
      refine ol_top (y := nI (cN k)) hk2 ?_
      refine ol_cR (st1 := [.int (mJd r f (cN k))]) (va_runV (As := [.int (nI (cN k))]) (rest := []) ⟨hx, hb, hml, hown, hts⟩ (mr_judged l G ad iS iA iL iT iC iR r pr ar br f pf af bf tx (cN k) (by omega) hm) (cwV 1 hts (lw_V q1304 q1306 qs38 q73 q1307) rfl rfl rfl (by decide +kernel) ⟨Nat.le_of_ble_eq_true rfl, Nat.le_of_ble_eq_true rfl⟩) (oPc.preV hE (hE.recv (ci := 12) (hP 0 _ rfl) rfl) hP) rfl rfl hl.1 rfl (lv_room (Nat.le_of_ble_eq_true rfl)) dX5_verdict_20 ⟨Nat.le_of_ble_eq_true rfl, Nat.le_of_ble_eq_true rfl⟩) rfl ?_
      refine lv_goto (tgt := 28) hx hb dX5_verdict_23 (by decide) ?_
      exact ol_iretR hx hb hr hlocks rfl (by simp [mVerd, zB, c_5, c_15]) dX5_verdict_28
  · refine lv_iconst (v := (-1)) hx hb dX5_verdict_8 (by decide) ?_
    exact ol_iretR hx hb hr hlocks rfl (by simp [mVerd, zB, c_5]) dX5_verdict_9
set_option maxHeartbeats 4000000 in
set_option maxRecDepth 100000 in
theorem mr_count (l : Launch) (G : oG) (ad : Nat → Nat) (iS : Int32) (iA : Int32) (iL : Int32) (iT : Int32) (iC : Int32) (iR : Int32) (r : Nat → Int32) (pr : Nat → Int32) (ar : Nat → Int32) (br : Nat → Int32) (f : Nat → UInt32) (pf : Nat → UInt32) (af : Nat → UInt32) (bf : Nat → UInt32) (tx : Nat → Int32) (q : Int32) (Rw Cl : Nat) (hg : mG r Rw Cl) (htk : ¬ r 2 < 0) (hdn : ¬ r 16 < 0) (hd20 : cN (r 16) ≤ 20) : Met l yX5_count (ws_ yX5_count cX5_count 2 (some .int)) ({ frames := 2, cells := 0, slots := 0, locals := 45 }) (oPc G [.ref (ad 0), .int q] (fun H => va_P G.1 cl0 (mW G ad iS iA iL iT iC iR r pr ar br f pf af bf tx) H)) (oR (some (.int (mCount r iS iL Rw Cl q)))) 0 0 (fun _ => False) := by
  refine Met.ofW (cc := cX5_count) (maxL := 2) (ret := (some .int)) (by decide) rfl ?_
  intro p e s m args below meth c s₁ B hml hv
  obtain ⟨rfl, hP, hE⟩ := hv
  have hx := B.exec
  have hb := B.bytes
  have hr := B.returns
  have hts := atoms_spec (ws := ws_ yX5_count cX5_count 2 (some .int)) B.pre
  have hts : ∀ w ∈ lw_all, w.before _ s = true := fun w h => hts w (List.mem_cons_of_mem _ h)
  have hown : s.vm.findClass RX5 = some m.cls := findClass_of_methodNamed B.named
  have hlocks := B.notSynchronized
  have hl := lv_entry ([.ref (ad 0), .int q]) (n := 2) (Nat.le_of_ble_eq_true rfl)
  rw [lg_entry_eq]
  generalize (lg_sl ([.ref (ad 0), .int q]) ++ List.replicate (2 - (lg_sl ([.ref (ad 0), .int q])).length) Slot.unset).toArray = ls at hl ⊢
  replace hl : lv_has ls 2 [(0, .ref (ad 0)), (1, .int q)] := hl
  have hgn := mG_n hg
  have hg' := hg
  obtain ⟨hg0, hg1, hg2, hg3, hg4, hg5⟩ := hg'
  refine lv_iload_n hx hb dX5_count_0 rfl (lv_at hl 1 rfl) ?_
  by_cases e_1_0 : q = 0
  · refine lv_tableIn (tgt := 80) (off := 79) hx hb dX5_count_1 (by rw [e_1_0]; decide) (by rw [e_1_0]; decide) (by rw [e_1_0]; rfl) (by decide) ?_
    refine lv_aload_n hx hb dX5_count_80 rfl (lv_at hl 0 rfl) ?_
    refine va_get (D := G.1) (ci := 12) (v := .ref (ad 1)) (C := RX5) (T := TX5) (N := 15) hx hb hts in_X5 hown hE.1 hP 0 rfl rfl 0 (by decide) (hts _ q1135) (fun _ h9 => h9) rfl dX5_count_81 ?_
    refine lv_iconst (v := 2) hx hb dX5_count_84 (by decide) ?_
    refine ol_iald hx hb hE.1 hP 1 0 rfl rfl 2 (by decide) (by decide) dX5_count_85 ?_
    exact ol_iretR hx hb hr hlocks rfl (by simp [mCount, zB, e_1_0]) dX5_count_86
  by_cases e_1_1 : q = 1
  · refine lv_tableIn (tgt := 87) (off := 86) hx hb dX5_count_1 (by rw [e_1_1]; decide) (by rw [e_1_1]; decide) (by rw [e_1_1]; rfl) (by decide) ?_
    refine lv_aload_n hx hb dX5_count_87 rfl (lv_at hl 0 rfl) ?_
    refine va_get (D := G.1) (ci := 12) (v := .ref (ad 1)) (C := RX5) (T := TX5) (N := 15) hx hb hts in_X5 hown hE.1 hP 0 rfl rfl 0 (by decide) (hts _ q1135) (fun _ h9 => h9) rfl dX5_count_88 ?_
    refine lv_iconst (v := 0) hx hb dX5_count_91 (by decide) ?_
    refine ol_iald hx hb hE.1 hP 1 0 rfl rfl 0 (by decide) (by decide) dX5_count_92 ?_
    exact ol_iretR hx hb hr hlocks rfl (by simp [mCount, zB, e_1_0, e_1_1]) dX5_count_93
  by_cases e_1_2 : q = 2
  · refine lv_tableIn (tgt := 94) (off := 93) hx hb dX5_count_1 (by rw [e_1_2]; decide) (by rw [e_1_2]; decide) (by rw [e_1_2]; rfl) (by decide) ?_
    refine lv_aload_n hx hb dX5_count_94 rfl (lv_at hl 0 rfl) ?_
    refine va_get (D := G.1) (ci := 12) (v := .ref (ad 1)) (C := RX5) (T := TX5) (N := 15) hx hb hts in_X5 hown hE.1 hP 0 rfl rfl 0 (by decide) (hts _ q1135) (fun _ h9 => h9) rfl dX5_count_95 ?_
    refine lv_iconst (v := 1) hx hb dX5_count_98 (by decide) ?_
    refine ol_iald hx hb hE.1 hP 1 0 rfl rfl 1 (by decide) (by decide) dX5_count_99 ?_
    exact ol_iretR hx hb hr hlocks rfl (by simp [mCount, zB, e_1_0, e_1_1, e_1_2]) dX5_count_100
  by_cases e_1_3 : q = 3
  · refine lv_tableIn (tgt := 101) (off := 100) hx hb dX5_count_1 (by rw [e_1_3]; decide) (by rw [e_1_3]; decide) (by rw [e_1_3]; rfl) (by decide) ?_
    refine lv_aload_n hx hb dX5_count_101 rfl (lv_at hl 0 rfl) ?_
    refine lv_iload_n hx hb dX5_count_102 rfl (lv_at hl 1 rfl) ?_
    refine ol_cR (st1 := [.int (nI (mThats r q (Rw * Cl)))]) (va_runV (As := [.int q]) (rest := []) ⟨hx, hb, hml, hown, hts⟩ (mr_keysThat l G ad iS iA iL iT iC iR r pr ar br f pf af bf tx q Rw Cl hg) (cwV 1 hts (lw_V q1433 q1435 qs54 q73 q1436) rfl rfl rfl (by decide +kernel) ⟨Nat.le_of_ble_eq_true rfl, Nat.le_of_ble_eq_true rfl⟩) (oPc.preV hE (hE.recv (ci := 12) (hP 0 _ rfl) rfl) hP) rfl rfl hl.1 rfl (lv_room (Nat.le_of_ble_eq_true rfl)) dX5_count_103 ⟨Nat.le_of_ble_eq_true rfl, Nat.le_of_ble_eq_true rfl⟩) rfl ?_
    exact ol_iretR hx hb hr hlocks rfl (by simp [mCount, zB, e_1_0, e_1_1, e_1_2, e_1_3]) dX5_count_106
  by_cases e_1_4 : q = 4
  · refine lv_tableIn (tgt := 101) (off := 100) hx hb dX5_count_1 (by rw [e_1_4]; decide) (by rw [e_1_4]; decide) (by rw [e_1_4]; rfl) (by decide) ?_
    refine lv_aload_n hx hb dX5_count_101 rfl (lv_at hl 0 rfl) ?_
    refine lv_iload_n hx hb dX5_count_102 rfl (lv_at hl 1 rfl) ?_
    refine ol_cR (st1 := [.int (nI (mThats r q (Rw * Cl)))]) (va_runV (As := [.int q]) (rest := []) ⟨hx, hb, hml, hown, hts⟩ (mr_keysThat l G ad iS iA iL iT iC iR r pr ar br f pf af bf tx q Rw Cl hg) (cwV 1 hts (lw_V q1433 q1435 qs54 q73 q1436) rfl rfl rfl (by decide +kernel) ⟨Nat.le_of_ble_eq_true rfl, Nat.le_of_ble_eq_true rfl⟩) (oPc.preV hE (hE.recv (ci := 12) (hP 0 _ rfl) rfl) hP) rfl rfl hl.1 rfl (lv_room (Nat.le_of_ble_eq_true rfl)) dX5_count_103 ⟨Nat.le_of_ble_eq_true rfl, Nat.le_of_ble_eq_true rfl⟩) rfl ?_
    exact ol_iretR hx hb hr hlocks rfl (by simp [mCount, zB, e_1_0, e_1_1, e_1_2, e_1_3, e_1_4]) dX5_count_106
  by_cases e_1_5 : q = 5
  · refine lv_tableIn (tgt := 101) (off := 100) hx hb dX5_count_1 (by rw [e_1_5]; decide) (by rw [e_1_5]; decide) (by rw [e_1_5]; rfl) (by decide) ?_
    refine lv_aload_n hx hb dX5_count_101 rfl (lv_at hl 0 rfl) ?_
    refine lv_iload_n hx hb dX5_count_102 rfl (lv_at hl 1 rfl) ?_
    refine ol_cR (st1 := [.int (nI (mThats r q (Rw * Cl)))]) (va_runV (As := [.int q]) (rest := []) ⟨hx, hb, hml, hown, hts⟩ (mr_keysThat l G ad iS iA iL iT iC iR r pr ar br f pf af bf tx q Rw Cl hg) (cwV 1 hts (lw_V q1433 q1435 qs54 q73 q1436) rfl rfl rfl (by decide +kernel) ⟨Nat.le_of_ble_eq_true rfl, Nat.le_of_ble_eq_true rfl⟩) (oPc.preV hE (hE.recv (ci := 12) (hP 0 _ rfl) rfl) hP) rfl rfl hl.1 rfl (lv_room (Nat.le_of_ble_eq_true rfl)) dX5_count_103 ⟨Nat.le_of_ble_eq_true rfl, Nat.le_of_ble_eq_true rfl⟩) rfl ?_
    exact ol_iretR hx hb hr hlocks rfl (by simp [mCount, zB, e_1_0, e_1_1, e_1_2, e_1_3, e_1_4, e_1_5]) dX5_count_106
  by_cases e_1_6 : q = 6
  · refine lv_tableIn (tgt := 107) (off := 106) hx hb dX5_count_1 (by rw [e_1_6]; decide) (by rw [e_1_6]; decide) (by rw [e_1_6]; rfl) (by decide) ?_
    refine lv_aload_n hx hb dX5_count_107 rfl (lv_at hl 0 rfl) ?_
    refine va_get (D := G.1) (ci := 12) (v := .ref (ad 1)) (C := RX5) (T := TX5) (N := 15) hx hb hts in_X5 hown hE.1 hP 0 rfl rfl 0 (by decide) (hts _ q1135) (fun _ h9 => h9) rfl dX5_count_108 ?_
    refine lv_bipush (v := 9) hx hb dX5_count_111 (by decide) ?_
    refine ol_iald hx hb hE.1 hP 1 0 rfl rfl 9 (by decide) (by decide) dX5_count_113 ?_
    exact ol_iretR hx hb hr hlocks rfl (by simp [mCount, zB, e_1_0, e_1_1, e_1_2, e_1_3, e_1_4, e_1_5, e_1_6]) dX5_count_114
  by_cases e_1_7 : q = 7
  · refine lv_tableIn (tgt := 115) (off := 114) hx hb dX5_count_1 (by rw [e_1_7]; decide) (by rw [e_1_7]; decide) (by rw [e_1_7]; rfl) (by decide) ?_
    refine lv_aload_n hx hb dX5_count_115 rfl (lv_at hl 0 rfl) ?_
    refine va_get (D := G.1) (ci := 12) (v := .ref (ad 1)) (C := RX5) (T := TX5) (N := 15) hx hb hts in_X5 hown hE.1 hP 0 rfl rfl 0 (by decide) (hts _ q1135) (fun _ h9 => h9) rfl dX5_count_116 ?_
    refine lv_bipush (v := 10) hx hb dX5_count_119 (by decide) ?_
    refine ol_iald hx hb hE.1 hP 1 0 rfl rfl 10 (by decide) (by decide) dX5_count_121 ?_
    refine lv_aload_n hx hb dX5_count_122 rfl (lv_at hl 0 rfl) ?_
    refine va_get (D := G.1) (ci := 12) (v := .ref (ad 1)) (C := RX5) (T := TX5) (N := 15) hx hb hts in_X5 hown hE.1 hP 0 rfl rfl 0 (by decide) (hts _ q1135) (fun _ h9 => h9) rfl dX5_count_123 ?_
    refine lv_bipush (v := 11) hx hb dX5_count_126 (by decide) ?_
    refine ol_iald hx hb hE.1 hP 1 0 rfl rfl 11 (by decide) (by decide) dX5_count_128 ?_
    refine lv_iadd hx hb dX5_count_129 ?_
    exact ol_iretR hx hb hr hlocks rfl (by simp [mCount, zB, e_1_0, e_1_1, e_1_2, e_1_3, e_1_4, e_1_5, e_1_6, e_1_7]) dX5_count_130
  by_cases e_1_8 : q = 8
  · refine lv_tableIn (tgt := 131) (off := 130) hx hb dX5_count_1 (by rw [e_1_8]; decide) (by rw [e_1_8]; decide) (by rw [e_1_8]; rfl) (by decide) ?_
    refine lv_aload_n hx hb dX5_count_131 rfl (lv_at hl 0 rfl) ?_
    refine va_get (D := G.1) (ci := 12) (v := .ref (ad 1)) (C := RX5) (T := TX5) (N := 15) hx hb hts in_X5 hown hE.1 hP 0 rfl rfl 0 (by decide) (hts _ q1135) (fun _ h9 => h9) rfl dX5_count_132 ?_
    refine lv_bipush (v := 14) hx hb dX5_count_135 (by decide) ?_
    refine ol_iald hx hb hE.1 hP 1 0 rfl rfl 14 (by decide) (by decide) dX5_count_137 ?_
    exact ol_iretR hx hb hr hlocks rfl (by simp [mCount, zB, e_1_0, e_1_1, e_1_2, e_1_3, e_1_4, e_1_5, e_1_6, e_1_7, e_1_8]) dX5_count_138
  by_cases e_1_9 : q = 9
  · refine lv_tableIn (tgt := 139) (off := 138) hx hb dX5_count_1 (by rw [e_1_9]; decide) (by rw [e_1_9]; decide) (by rw [e_1_9]; rfl) (by decide) ?_
    refine lv_aload_n hx hb dX5_count_139 rfl (lv_at hl 0 rfl) ?_
    refine ol_cR (st1 := [.int (nI (mOpen r (cN (r 16))))]) (va_runV (As := []) (rest := []) ⟨hx, hb, hml, hown, hts⟩ (mr_openDisputes l G ad iS iA iL iT iC iR r pr ar br f pf af bf tx (cN (r 16)) (nn_of hdn).1 hd20) (cwV 0 hts (lw_V q1437 q1439 qs55 q73 q1440) rfl rfl rfl (by decide +kernel) ⟨Nat.le_of_ble_eq_true rfl, Nat.le_of_ble_eq_true rfl⟩) (oPc.preV hE (hE.recv (ci := 12) (hP 0 _ rfl) rfl) hP) rfl rfl hl.1 rfl (lv_room (Nat.le_of_ble_eq_true rfl)) dX5_count_140 ⟨Nat.le_of_ble_eq_true rfl, Nat.le_of_ble_eq_true rfl⟩) rfl ?_
    exact ol_iretR hx hb hr hlocks rfl (by simp [mCount, zB, e_1_0, e_1_1, e_1_2, e_1_3, e_1_4, e_1_5, e_1_6, e_1_7, e_1_8, e_1_9]) dX5_count_143
  by_cases e_1_10 : q = 10
  · refine lv_tableIn (tgt := 144) (off := 143) hx hb dX5_count_1 (by rw [e_1_10]; decide) (by rw [e_1_10]; decide) (by rw [e_1_10]; rfl) (by decide) ?_
    refine lv_aload_n hx hb dX5_count_144 rfl (lv_at hl 0 rfl) ?_
    refine va_get (D := G.1) (ci := 12) (v := .ref (ad 1)) (C := RX5) (T := TX5) (N := 15) hx hb hts in_X5 hown hE.1 hP 0 rfl rfl 0 (by decide) (hts _ q1135) (fun _ h9 => h9) rfl dX5_count_145 ?_
    refine lv_bipush (v := 16) hx hb dX5_count_148 (by decide) ?_
    refine ol_iald hx hb hE.1 hP 1 0 rfl rfl 16 (by decide) (by decide) dX5_count_150 ?_
    exact ol_iretR hx hb hr hlocks rfl (by simp [mCount, zB, e_1_0, e_1_1, e_1_2, e_1_3, e_1_4, e_1_5, e_1_6, e_1_7, e_1_8, e_1_9, e_1_10]) dX5_count_151
  by_cases e_1_11 : q = 11
  · refine lv_tableIn (tgt := 152) (off := 151) hx hb dX5_count_1 (by rw [e_1_11]; decide) (by rw [e_1_11]; decide) (by rw [e_1_11]; rfl) (by decide) ?_
    refine lv_aload_n hx hb dX5_count_152 rfl (lv_at hl 0 rfl) ?_
    refine va_get (D := G.1) (ci := 12) (v := .ref (ad 1)) (C := RX5) (T := TX5) (N := 15) hx hb hts in_X5 hown hE.1 hP 0 rfl rfl 0 (by decide) (hts _ q1135) (fun _ h9 => h9) rfl dX5_count_153 ?_
    refine lv_bipush (v := 12) hx hb dX5_count_156 (by decide) ?_
    refine ol_iald hx hb hE.1 hP 1 0 rfl rfl 12 (by decide) (by decide) dX5_count_158 ?_
    refine lv_aload_n hx hb dX5_count_159 rfl (lv_at hl 0 rfl) ?_
    refine va_get (D := G.1) (ci := 12) (v := .ref (ad 1)) (C := RX5) (T := TX5) (N := 15) hx hb hts in_X5 hown hE.1 hP 0 rfl rfl 0 (by decide) (hts _ q1135) (fun _ h9 => h9) rfl dX5_count_160 ?_
    refine lv_bipush (v := 13) hx hb dX5_count_163 (by decide) ?_
    refine ol_iald hx hb hE.1 hP 1 0 rfl rfl 13 (by decide) (by decide) dX5_count_165 ?_
    refine lv_iadd hx hb dX5_count_166 ?_
    exact ol_iretR hx hb hr hlocks rfl (by simp [mCount, zB, e_1_0, e_1_1, e_1_2, e_1_3, e_1_4, e_1_5, e_1_6, e_1_7, e_1_8, e_1_9, e_1_10, e_1_11]) dX5_count_167
  by_cases e_1_12 : q = 12
  · refine lv_tableIn (tgt := 168) (off := 167) hx hb dX5_count_1 (by rw [e_1_12]; decide) (by rw [e_1_12]; decide) (by rw [e_1_12]; rfl) (by decide) ?_
    refine lv_aload_n hx hb dX5_count_168 rfl (lv_at hl 0 rfl) ?_
    refine va_get (D := G.1) (ci := 12) (v := .ref (ad 1)) (C := RX5) (T := TX5) (N := 15) hx hb hts in_X5 hown hE.1 hP 0 rfl rfl 0 (by decide) (hts _ q1135) (fun _ h9 => h9) rfl dX5_count_169 ?_
    refine lv_bipush (v := 15) hx hb dX5_count_172 (by decide) ?_
    refine ol_iald hx hb hE.1 hP 1 0 rfl rfl 15 (by decide) (by decide) dX5_count_174 ?_
    exact ol_iretR hx hb hr hlocks rfl (by simp [mCount, zB, e_1_0, e_1_1, e_1_2, e_1_3, e_1_4, e_1_5, e_1_6, e_1_7, e_1_8, e_1_9, e_1_10, e_1_11, e_1_12]) dX5_count_175
  by_cases e_1_13 : q = 13
  · refine lv_tableIn (tgt := 176) (off := 175) hx hb dX5_count_1 (by rw [e_1_13]; decide) (by rw [e_1_13]; decide) (by rw [e_1_13]; rfl) (by decide) ?_
    refine lv_aload_n hx hb dX5_count_176 rfl (lv_at hl 0 rfl) ?_
    refine va_get (D := G.1) (ci := 12) (v := .ref (ad 1)) (C := RX5) (T := TX5) (N := 15) hx hb hts in_X5 hown hE.1 hP 0 rfl rfl 0 (by decide) (hts _ q1135) (fun _ h9 => h9) rfl dX5_count_177 ?_
    refine lv_iconst (v := 2) hx hb dX5_count_180 (by decide) ?_
    refine ol_iald hx hb hE.1 hP 1 0 rfl rfl 2 (by decide) (by decide) dX5_count_181 ?_
    refine ol_top (y := nI (cN (r 2))) (nn_of htk).1 ?_
    refine lv_aload_n hx hb dX5_count_182 rfl (lv_at hl 0 rfl) ?_
    refine va_get (D := G.1) (ci := 12) (v := .ref (ad 1)) (C := RX5) (T := TX5) (N := 15) hx hb hts in_X5 hown hE.1 hP 0 rfl rfl 0 (by decide) (hts _ q1135) (fun _ h9 => h9) rfl dX5_count_183 ?_
    refine lv_iconst (v := 0) hx hb dX5_count_186 (by decide) ?_
    refine ol_iald hx hb hE.1 hP 1 0 rfl rfl 0 (by decide) (by decide) dX5_count_187 ?_
    have htk2 := (nn_of htk).2
    refine ol_top (y := nI Rw) hg0 ?_
    refine ol_irem hx hb (cN (r 2)) Rw (by omega) (by omega) (by omega) dX5_count_188 ?_
    exact ol_iretR hx hb hr hlocks rfl (by simp [mCount, zB, e_1_0, e_1_1, e_1_2, e_1_3, e_1_4, e_1_5, e_1_6, e_1_7, e_1_8, e_1_9, e_1_10, e_1_11, e_1_12, e_1_13]) dX5_count_189
  by_cases e_1_14 : q = 14
  · refine lv_tableIn (tgt := 190) (off := 189) hx hb dX5_count_1 (by rw [e_1_14]; decide) (by rw [e_1_14]; decide) (by rw [e_1_14]; rfl) (by decide) ?_
    refine lv_aload_n hx hb dX5_count_190 rfl (lv_at hl 0 rfl) ?_
    refine va_get (D := G.1) (ci := 12) (v := .int iS) (C := RX5) (T := TX5) (N := 15) hx hb hts in_X5 hown hE.1 hP 0 rfl rfl 8 (by decide) (hts _ q1143) (fun _ h9 => h9) rfl dX5_count_191 ?_
    exact ol_iretR hx hb hr hlocks rfl (by simp [mCount, zB, e_1_0, e_1_1, e_1_2, e_1_3, e_1_4, e_1_5, e_1_6, e_1_7, e_1_8, e_1_9, e_1_10, e_1_11, e_1_12, e_1_13, e_1_14]) dX5_count_194
  by_cases e_1_15 : q = 15
  · refine lv_tableIn (tgt := 195) (off := 194) hx hb dX5_count_1 (by rw [e_1_15]; decide) (by rw [e_1_15]; decide) (by rw [e_1_15]; rfl) (by decide) ?_
    refine lv_aload_n hx hb dX5_count_195 rfl (lv_at hl 0 rfl) ?_
    refine va_get (D := G.1) (ci := 12) (v := .int iL) (C := RX5) (T := TX5) (N := 15) hx hb hts in_X5 hown hE.1 hP 0 rfl rfl 11 (by decide) (hts _ q1146) (fun _ h9 => h9) rfl dX5_count_196 ?_
    exact ol_iretR hx hb hr hlocks rfl (by simp [mCount, zB, e_1_0, e_1_1, e_1_2, e_1_3, e_1_4, e_1_5, e_1_6, e_1_7, e_1_8, e_1_9, e_1_10, e_1_11, e_1_12, e_1_13, e_1_14, e_1_15]) dX5_count_199
  refine lv_tableOut (tgt := 200) hx hb dX5_count_1 (sw_out (n := 16) (by decide) (fun k hk => by
    rcases (show k = 0 ∨ k = 1 ∨ k = 2 ∨ k = 3 ∨ k = 4 ∨ k = 5 ∨ k = 6 ∨ k = 7 ∨ k = 8 ∨ k = 9 ∨ k = 10 ∨ k = 11 ∨ k = 12 ∨ k = 13 ∨ k = 14 ∨ k = 15 by omega) with rfl | rfl | rfl | rfl | rfl | rfl | rfl | rfl | rfl | rfl | rfl | rfl | rfl | rfl | rfl | rfl
    · exact e_1_0
    · exact e_1_1
    · exact e_1_2
    · exact e_1_3
    · exact e_1_4
    · exact e_1_5
    · exact e_1_6
    · exact e_1_7
    · exact e_1_8
    · exact e_1_9
    · exact e_1_10
    · exact e_1_11
    · exact e_1_12
    · exact e_1_13
    · exact e_1_14
    · exact e_1_15
    )) (by decide) ?_
  refine lv_bipush (v := (-2)) hx hb dX5_count_200 (by decide) ?_
  exact ol_iretR hx hb hr hlocks rfl (by simp [mCount, zB, e_1_0, e_1_1, e_1_2, e_1_3, e_1_4, e_1_5, e_1_6, e_1_7, e_1_8, e_1_9, e_1_10, e_1_11, e_1_12, e_1_13, e_1_14, e_1_15]) dX5_count_202
