/-! THE REFERENCE: the calls that change it, but texts -/
def mIt (r : Nat → Int32) (f : Nat → UInt32) (iC iR : Int32) (Rw Cl : Nat) : Nat → (Nat → Int32) × (Nat → UInt32) × Nat × Int32 × Int32
  | 0 => (r, f, 0, iC, iR)
  | j + 1 => (mStR (mIt r f iC iR Rw Cl j).1 (mIt r f iC iR Rw Cl j).2.1 Rw Cl, mStF (mIt r f iC iR Rw Cl j).1 (mIt r f iC iR Rw Cl j).2.1 Rw Cl, (mIt r f iC iR Rw Cl j).2.2.1 + mStN (mIt r f iC iR Rw Cl j).1 (mIt r f iC iR Rw Cl j).2.1 Rw Cl,
      nI (mDrv (mIt r f iC iR Rw Cl j).1 Rw Cl (mFm (mIt r f iC iR Rw Cl j).1 Rw Cl / Cl)).2, nI (mDrv (mIt r f iC iR Rw Cl j).1 Rw Cl (mFm (mIt r f iC iR Rw Cl j).1 Rw Cl / Cl)).1)
def mItOK (r : Nat → Int32) (f : Nat → UInt32) (Rw Cl n : Nat) : Prop := ∀ j, j < n → mStepOK (mIt r f 0 0 Rw Cl j).1 (mIt r f 0 0 Rw Cl j).2.1 Rw Cl
theorem mIt_c (r : Nat → Int32) (f : Nat → UInt32) (iC iR a b : Int32) (Rw Cl n : Nat) : (mIt r f iC iR Rw Cl n).1 = (mIt r f a b Rw Cl n).1 ∧ (mIt r f iC iR Rw Cl n).2.1 = (mIt r f a b Rw Cl n).2.1 ∧ (mIt r f iC iR Rw Cl n).2.2.1 = (mIt r f a b Rw Cl n).2.2.1 := by
  induction n with
  | zero => exact ⟨rfl, rfl, rfl⟩
  | succ n ih =>
    obtain ⟨h1, h2, h3⟩ := ih
    unfold mIt
    dsimp only
    rw [h1, h2, h3]
    exact ⟨rfl, rfl, rfl⟩
theorem mAP_ok {r : Nat → Int32} {n : Nat} {q k : Int32} (h : ¬ mAP r n q k < 0) : noT q = false ∧ noK k n = false ∧ dn r (cN k) = false ∧ mHeld r n q ≠ 5 ∧ mAP r n q k = 0 := by
  unfold mAP at h ⊢
  cases h1 : noT q <;> cases h2 : noK k n <;> cases h3 : dn r (cN k) <;> by_cases h4 : mHeld r n q = 5 <;> simp_all
theorem mAR_ok {r : Nat → Int32} {n : Nat} {q k : Int32} (h : ¬ mAR r n q k < 0) : noT q = false ∧ noK k n = false ∧ r (20 + cN k) = q ∧ mAR r n q k = 0 := by
  unfold mAR at h ⊢
  cases h1 : noT q <;> cases h2 : noK k n <;> by_cases h4 : r (20 + cN k) = q <;> simp_all
theorem mSh_n {r : Nat → Int32} {k : Int32} (h : ¬ mSh r k < 0) : cN (mSh r k) < 2 ∧ mSh r k = nI (cN (mSh r k)) := by
  rcases mSh_r r k with e | e | e
  · rw [e]; exact ⟨by decide, by decide⟩
  · rw [e]; exact ⟨by decide, by decide⟩
  · rw [e] at h; exact absurd (by decide) h
theorem upd_back (r : Nat → Int32) (k : Nat) (x : Int32) : upd (upd r k x) k (r k) = r := by
  funext j; unfold upd; split
  · rename_i h; rw [h]
  · rfl
/-- a key's sign: is it set? -/
def mSgN (r : Nat → Int32) (n : Nat) (k s : Int32) : Bool := noK k n || (!inR s 97 122 && !decide (s = 46)) || (decide (r (260 + cN k) = s) && decide (mSh r k < 0))
def mSgV (r : Nat → Int32) (n : Nat) (k s : Int32) : Int32 := if noK k n = true then -1 else if (!inR s 97 122 && !decide (s = 46)) = true then -2 else if r (260 + cN k) = s ∧ mSh r k < 0 then -5 else r (260 + cN k)
def mSgR (r : Nat → Int32) (k s : Int32) : Nat → Int32 := if mSh r k < 0 then upd r (260 + cN k) s else upd (upd r (260 + cN k) s) (5 + cN (mSh r k)) (-5)
def mSfN (r : Nat → Int32) (n : Nat) (q k : Int32) : Bool := noT q || noK k n || decide (mSh r k = nI (1 - cN q)) || decide (mSh r k = q)
def mSfV (r : Nat → Int32) (n : Nat) (q k : Int32) : Int32 := if noT q = true then -1 else if noK k n = true then -1 else if mSh r k = nI (1 - cN q) then -4 else if mSh r k = q then -5 else if r (5 + cN q) < 0 then k else r (5 + cN q)
def mSfR (r : Nat → Int32) (q k : Int32) : Nat → Int32 := upd (upd r (5 + cN q) k) (260 + cN k) 46
def mBoN (r : Nat → Int32) (q : Int32) (b : Bool) : Bool := noT q || (decide (r (7 + cN q) = 1) == b)
def mBoR (r : Nat → Int32) (q : Int32) (b : Bool) : Nat → Int32 := upd r (7 + cN q) (zB b)
def mBoV (r : Nat → Int32) (q : Int32) (b : Bool) : Int32 := if noT q = true then -1 else if (decide (r (7 + cN q) = 1) == b) = true then -5 else mBoR r q b 7 + mBoR r q b 8
def mKeyV (r : Nat → Int32) (Rw Cl : Nat) (k x : Int32) : Int32 := if noK k (Rw * Cl) = true then -1 else if x = 0 then r (20 + cN k) else if x = 1 then zB (sn r (cN k)) else if x = 2 then r (68 + cN k) else if x = 3 then (if sn r (cN k) = true then r (116 + cN k) else 0) else if x = 4 then r (260 + cN k) else if x = 5 then mSh r (nI (cN k)) else if x = 6 then zB (mWs r Rw Cl (cN k)) else -2
def mKeyD (n : Nat) (k x : Int32) : Bool := !noK k n && decide (x = 6)
/-- ghosts by a key: the sum, and where the driving stands -/
def mGhC (r : Nat → Int32) (j k : Nat) : Bool := !decide (k = j) && !dn r k
def mGhO (r : Nat → Int32) (j : Nat) : Int32 := if r (20 + j) < 0 then 0 else -5
def mGhD (r : Nat → Int32) (Rw Cl j k : Nat) : Int32 := if (mWs r Rw Cl k && !mWs (upd r (20 + j) (mGhO r j)) Rw Cl k) = true then 1 else if (!mWs r Rw Cl k && mWs (upd r (20 + j) (mGhO r j)) Rw Cl k) = true then -1 else 0
def mGh (r : Nat → Int32) (Rw Cl j : Nat) : Nat → Int32
  | 0 => 100
  | k + 1 => if mGhC r j k = true then mGh r Rw Cl j k + mGhD r Rw Cl j k else mGh r Rw Cl j k
def mGhW (r : Nat → Int32) (iC iR : Int32) (Rw Cl j : Nat) : Nat → Int32 × Int32
  | 0 => (iC, iR)
  | k + 1 => if mGhC r j k = true then (nI (mDrv (upd r (20 + j) (mGhO r j)) Rw Cl (k / Cl)).2, nI (mDrv (upd r (20 + j) (mGhO r j)) Rw Cl (k / Cl)).1) else mGhW r iC iR Rw Cl j k
def mGhN (n : Nat) (k : Int32) : Bool := noK k n
/-- a dispute is settled -/
def mSeN (r : Nat → Int32) (q x : Int32) : Bool := !inR q 0 (r 16 - 1) || !inR x 0 2 || !decide (r (404 + 7 * cN q + 3) < 0)
def mSe1 (r : Nat → Int32) (d : Nat) (x : Int32) : Nat → Int32 := upd r (d + 3) x
def mSe2 (r : Nat → Int32) (d : Nat) (x : Int32) : Nat → Int32 := if 16 < mSe1 r d x 9 - mSe1 r d x (d + 6) then mSe1 r d x else upd (mSe1 r d x) (308 + 6 * (cN (r (d + 6)) % 16) + 3) x
def mSe3 (r : Nat → Int32) (d : Nat) (x : Int32) : Nat → Int32 := mCnt (mSe2 r d x) x (mSe2 r d x (d + 4))
def mSe4 (r : Nat → Int32) (d : Nat) (x : Int32) : Nat → Int32 := mLnR (mSe3 r d x) (cN x) (mSe3 r d x (d + 1))
def mSeF (r : Nat → Int32) (f : Nat → UInt32) (d : Nat) (x : Int32) : Nat → UInt32 := if x < 2 then mLnF (mSe3 r d x) f (cN x) (mSe3 r d x (d + 1)) (mSe3 r d x (d + 2)) else f
def mSeR (r : Nat → Int32) (n d : Nat) (x : Int32) : Nat → Int32 := if x < 2 then mGs (mSe4 r d x) n (cN x) (mSe4 r d x (d + 0)) (mSe4 r d x (d + 5)) else mSe3 r d x
def mSeV (r : Nat → Int32) (n : Nat) (q x : Int32) : Int32 := if (!inR q 0 (r 16 - 1)) = true then -1 else if inR x 0 2 = true then (if r (404 + 7 * cN q + 3) < 0 then mSeR r n (404 + 7 * cN q) x (404 + 7 * cN q + 0) else -4) else -2
theorem mSe2_lo {r : Nat → Int32} {d j : Nat} {x : Int32} (hd : 404 ≤ d) (h : j < 308) : mSe2 r d x j = r j := by
  unfold mSe2 mSe1
  split
  · rw [pk_un (by omega)]
  · rw [pk_un (by omega), pk_un (by omega)]
theorem mSe3_lo {r : Nat → Int32} {d j : Nat} {x : Int32} (hx : ¬ x < 0) (hd : 404 ≤ d) (h : j < 10 ∨ (15 < j ∧ j < 308)) : mSe3 r d x j = r j := by
  unfold mSe3
  rw [mCnt_lo hx (by omega), mSe2_lo hd (by omega)]
theorem mSe4_lo {r : Nat → Int32} {d j : Nat} {x : Int32} (hx : ¬ x < 0) (h2 : x < 2) (hd : 404 ≤ d) (h : j < 3 ∨ (4 < j ∧ j < 10) ∨ (15 < j ∧ j < 308)) : mSe4 r d x j = r j := by
  unfold mSe4 mLnR
  have := (lt2 hx h2).1
  rw [pk_un (by omega), mSe3_lo hx hd (by omega)]
set_option maxHeartbeats 4000000 in
set_option maxRecDepth 100000 in
theorem mm_steps (l : Launch) (G : oG) (ad : Nat → Nat) (iS : Int32) (iA : Int32) (iL : Int32) (iT : Int32) (iC : Int32) (iR : Int32) (r : Nat → Int32) (pr : Nat → Int32) (ar : Nat → Int32) (br : Nat → Int32) (f : Nat → UInt32) (pf : Nat → UInt32) (af : Nat → UInt32) (bf : Nat → UInt32) (tx : Nat → Int32) (n : Nat) (Rw Cl : Nat) (hn : n ≤ 99) (hok : mItOK r f Rw Cl n) (sz : Nat) : Met l yX5_steps (ws_ yX5_steps cX5_steps 4 (some .int)) ({ frames := 5, cells := 0, slots := 0, locals := 132 }) (oPc G [.ref (ad 0), .int (nI n)] (oPE G (mW G ad iS iA iL iT iC iR r pr ar br f pf af bf tx) sz (fun _ => True))) (oE G (fun v_ W_ => v_ = some (.int (nI ((mIt r f iC iR Rw Cl n).2.2.1))) ∧ W_ = mW G ad iS iA iL iT ((mIt r f iC iR Rw Cl n).2.2.2.1) ((mIt r f iC iR Rw Cl n).2.2.2.2) ((mIt r f iC iR Rw Cl n).1) pr ar br ((mIt r f iC iR Rw Cl n).2.1) pf af bf tx) (mW G ad iS iA iL iT iC iR r pr ar br f pf af bf tx) sz) 0 0 (va_A (mW G ad iS iA iL iT iC iR r pr ar br f pf af bf tx) sz) := by
  refine Met.ofW (cc := cX5_steps) (maxL := 4) (ret := (some .int)) (by decide) rfl ?_
  intro p e s m args below meth c s₁ B hml hv
  obtain ⟨rfl, ⟨hsz, hP, hD0, hX⟩, hE⟩ := hv
  have hx := B.exec
  have hb := B.bytes
  have hr := B.returns
  have hts := atoms_spec (ws := ws_ yX5_steps cX5_steps 4 (some .int)) B.pre
  have hts : ∀ w ∈ lw_all, w.before _ s = true := fun w h => hts w (List.mem_cons_of_mem _ h)
  have hown : s.vm.findClass RX5 = some m.cls := findClass_of_methodNamed B.named
  have hlocks := B.notSynchronized
  subst hsz
  have hD := hD0.self (sz := s.heap.size)
  have hA : ∀ q : Nat, s.heap.size ≤ q → va_A (mW G ad iS iA iL iT iC iR r pr ar br f pf af bf tx) s.heap.size q := fun q h => Or.inr h
  have hl := lv_entry ([.ref (ad 0), .int (nI n)]) (n := 4) (Nat.le_of_ble_eq_true rfl)
  rw [lg_entry_eq]
  generalize (lg_sl ([.ref (ad 0), .int (nI n)]) ++ List.replicate (4 - (lg_sl ([.ref (ad 0), .int (nI n)])).length) Slot.unset).toArray = ls at hl ⊢
  replace hl : lv_has ls 4 [(0, .ref (ad 0)), (1, .int (nI n))] := hl
  refine ol_start (A := va_A (mW G ad iS iA iL iT iC iR r pr ar br f pf af bf tx) s.heap.size) (fun H locs hH hS => ?_)
  rw [← hH] at hP
  clear hH
  refine lv_iconst (v := 0) hx hb dX5_steps_0 (by decide) ?_
  refine lv_istore_n (lv' := [(2, .int 0), (0, .ref (ad 0)), (1, .int (nI n))]) hx hb dX5_steps_1 rfl hl (by decide) rfl (fun ls hl => ?_)
  refine lv_iconst (v := 0) hx hb dX5_steps_2 (by decide) ?_
  refine lv_istore_n (lv' := [(3, .int 0), (2, .int 0), (0, .ref (ad 0)), (1, .int (nI n))]) hx hb dX5_steps_3 rfl hl (by decide) rfl (fun ls hl => ?_)
  refine ol_for (P := fun i1 H locs ls => lv_has ls 4 [(3, .int (nI i1)), (0, .ref (ad 0)), (1, .int (nI n)), (2, .int (nI ((mIt r f iC iR Rw Cl i1).2.2.1)))] ∧ va_P G.1 cl0 (mW G ad iS iA iL iT ((mIt r f iC iR Rw Cl i1).2.2.2.1) ((mIt r f iC iR Rw Cl i1).2.2.2.2) ((mIt r f iC iR Rw Cl i1).1) pr ar br ((mIt r f iC iR Rw Cl i1).2.1) pf af bf tx) H ∧ va_D (va_A (mW G ad iS iA iL iT iC iR r pr ar br f pf af bf tx) s.heap.size) (mW G ad iS iA iL iT ((mIt r f iC iR Rw Cl i1).2.2.2.1) ((mIt r f iC iR Rw Cl i1).2.2.2.2) ((mIt r f iC iR Rw Cl i1).1) pr ar br ((mIt r f iC iR Rw Cl i1).2.1) pf af bf tx) ∧ va_S (va_A (mW G ad iS iA iL iT iC iR r pr ar br f pf af bf tx) s.heap.size) s.heap H locs) (n) 0 (by omega) ⟨lv_sub hl [0, 2, 3, 1] rfl, hP, hD, hS⟩ (fun i1 H locs ls hi1 hI ih1 => ?_)
  obtain ⟨hl, hP, hD, hS⟩ := hI
  have hok1 : i1 < n → mStepOK (mIt r f iC iR Rw Cl i1).1 (mIt r f iC iR Rw Cl i1).2.1 Rw Cl := fun h => by rw [(mIt_c r f iC iR 0 0 Rw Cl i1).1, (mIt_c r f iC iR 0 0 Rw Cl i1).2.1]; exact hok i1 h
  refine lv_iload_n hx hb dX5_steps_4 rfl (lv_at hl 0 rfl) ?_
  refine lv_iload_n hx hb dX5_steps_5 rfl (lv_at hl 2 rfl) ?_
  refine ol_icmp_ge hx hb i1 n (by omega) (by omega) (tgt := 22) dX5_steps_6 (by decide) (fun c_6 => ?_) (fun c_6 => ?_)
  · have ei1 : n = i1 := by omega
    subst ei1
    refine lv_iload_n hx hb dX5_steps_22 rfl (lv_at hl 3 rfl) ?_
    exact ol_iretE hx hb hr hlocks ⟨congrArg (fun z => some (Value.int z)) rfl, rfl⟩ hP hD hS dX5_steps_23
  · refine lv_iload_n hx hb dX5_steps_9 rfl (lv_at hl 3 rfl) ?_
    refine lv_aload_n hx hb dX5_steps_10 rfl (lv_at hl 1 rfl) ?_
    refine ol_cM (st1 := [.int (nI (mStN ((mIt r f iC iR Rw Cl i1).1) ((mIt r f iC iR Rw Cl i1).2.1) Rw Cl)), .int (nI ((mIt r f iC iR Rw Cl i1).2.2.1))]) (va_runV (As := []) (rest := [.int (nI ((mIt r f iC iR Rw Cl i1).2.2.1))]) ⟨hx, hb, hml, hown, hts⟩ (mm_step l G ad iS iA iL iT ((mIt r f iC iR Rw Cl i1).2.2.2.1) ((mIt r f iC iR Rw Cl i1).2.2.2.2) ((mIt r f iC iR Rw Cl i1).1) pr ar br ((mIt r f iC iR Rw Cl i1).2.1) pf af bf tx Rw Cl (hok1 c_6) H.size) (cwV 0 hts (lw_V q1292 q1294 qs35 q73 q1295) rfl rfl rfl (by decide +kernel) ⟨Nat.le_of_ble_eq_true rfl, Nat.le_of_ble_eq_true rfl⟩) (oPc.preV hE (hE.recv (ci := 12) (hP 0 _ rfl) rfl) ⟨rfl, hP, oD_weak hD (fun _ _ => trivial), trivial⟩) rfl rfl hl.1 rfl (lv_room (Nat.le_of_ble_eq_true rfl)) dX5_steps_11 ⟨Nat.le_of_ble_eq_true rfl, Nat.le_of_ble_eq_true rfl⟩) hP hD hS hA rfl (fun H locs hP hD hS => ?_)
    refine ol_iadd hx hb ((mIt r f iC iR Rw Cl i1).2.2.1) (mStN ((mIt r f iC iR Rw Cl i1).1) ((mIt r f iC iR Rw Cl i1).2.1) Rw Cl) dX5_steps_14 ?_
    refine lv_istore_n (lv' := [(2, .int (nI ((mIt r f iC iR Rw Cl i1).2.2.1 + (mStN ((mIt r f iC iR Rw Cl i1).1) ((mIt r f iC iR Rw Cl i1).2.1) Rw Cl)))), (3, .int (nI i1)), (0, .ref (ad 0)), (1, .int (nI n))]) hx hb dX5_steps_15 rfl hl (by decide) rfl (fun ls hl => ?_)
    refine ol_iinc (k := 1) (lv' := [(3, .int (nI (i1 + 1))), (2, .int (nI ((mIt r f iC iR Rw Cl i1).2.2.1 + (mStN ((mIt r f iC iR Rw Cl i1).1) ((mIt r f iC iR Rw Cl i1).2.1) Rw Cl)))), (0, .ref (ad 0)), (1, .int (nI n))]) hx hb 1 i1 dX5_steps_16 hl rfl (by decide) rfl (fun ls hl => ?_)
    refine lv_goto (tgt := 4) hx hb dX5_steps_19 (by decide) ?_
    refine ih1 H locs ls (by omega) ⟨?_, ?_, ?_, hS⟩
    · exact lv_sub hl [0, 2, 3, 1] rfl
    · exact hP
    · exact mD_any hD
theorem inR_1 {x : Int32} (h : inR x 1 99 = true) : 1 ≤ cN x ∧ x = nI (cN x) ∧ cN x ≤ 99 := by
  simp only [inR, Bool.and_eq_true, Bool.not_eq_true', decide_eq_false_iff_not] at h
  obtain ⟨h1, h2⟩ := h
  have h0 : ¬ x < 0 := fun q => h1 (by rw [Int32.lt_iff_toInt_lt] at q ⊢; have : (0 : Int32).toInt = 0 := rfl; have : (1 : Int32).toInt = 1 := rfl; omega)
  obtain ⟨e, hj⟩ := nn_of h0
  rw [e, show (1 : Int32) = nI 1 from rfl, nI_ltI hj (by decide)] at h1
  rw [e, show (99 : Int32) = nI 99 from rfl, nI_ltI (by decide) hj] at h2
  exact ⟨by omega, e, by omega⟩
set_option maxHeartbeats 4000000 in
set_option maxRecDepth 100000 in
theorem mm_tick (l : Launch) (G : oG) (ad : Nat → Nat) (st : Nat) (iA : Int32) (iL : Int32) (iT : Int32) (iC : Int32) (iR : Int32) (r : Nat → Int32) (pr : Nat → Int32) (ar : Nat → Int32) (br : Nat → Int32) (f : Nat → UInt32) (pf : Nat → UInt32) (af : Nat → UInt32) (bf : Nat → UInt32) (tx : Nat → Int32) (t : Int32) (Rw Cl : Nat) (hst : st ≤ 4) (hok : mItOK r f Rw Cl (cN t)) (sz : Nat) : Met l yX5_tick (ws_ yX5_tick cX5_tick 2 (some .int)) ({ frames := 6, cells := 0, slots := 0, locals := 155 }) (oPc G [.ref (ad 0), .int t] (oPE G (mW G ad (nI st) iA iL iT iC iR r pr ar br f pf af bf tx) sz (fun _ => True))) (oE G (fun v_ W_ => v_ = some (.int (if inR t 1 99 = true then nI (mIt r f iC iR Rw Cl (cN t)).2.2.1 else -2)) ∧ W_ = mW G ad (nI (if inR t 1 99 = false then st else (mRecN st))) iA iL iT (if inR t 1 99 = false then iC else (mIt r f iC iR Rw Cl (cN t)).2.2.2.1) (if inR t 1 99 = false then iR else (mIt r f iC iR Rw Cl (cN t)).2.2.2.2) (if inR t 1 99 = false then r else (mIt r f iC iR Rw Cl (cN t)).1) (if inR t 1 99 = false then pr else mRecP pr (mCp r br 592) st) ar (if inR t 1 99 = false then br else mCp r br 592) (if inR t 1 99 = false then f else (mIt r f iC iR Rw Cl (cN t)).2.1) (if inR t 1 99 = false then pf else mRecF pf (mCf f bf 7) st) af (if inR t 1 99 = false then bf else mCf f bf 7) tx) (mW G ad (nI st) iA iL iT iC iR r pr ar br f pf af bf tx) sz) 0 0 (va_A (mW G ad (nI st) iA iL iT iC iR r pr ar br f pf af bf tx) sz) := by
  refine Met.ofW (cc := cX5_tick) (maxL := 2) (ret := (some .int)) (by decide) rfl ?_
  intro p e s m args below meth c s₁ B hml hv
  obtain ⟨rfl, ⟨hsz, hP, hD0, hX⟩, hE⟩ := hv
  have hx := B.exec
  have hb := B.bytes
  have hr := B.returns
  have hts := atoms_spec (ws := ws_ yX5_tick cX5_tick 2 (some .int)) B.pre
  have hts : ∀ w ∈ lw_all, w.before _ s = true := fun w h => hts w (List.mem_cons_of_mem _ h)
  have hown : s.vm.findClass RX5 = some m.cls := findClass_of_methodNamed B.named
  have hlocks := B.notSynchronized
  subst hsz
  have hD := hD0.self (sz := s.heap.size)
  have hA : ∀ q : Nat, s.heap.size ≤ q → va_A (mW G ad (nI st) iA iL iT iC iR r pr ar br f pf af bf tx) s.heap.size q := fun q h => Or.inr h
  have hl := lv_entry ([.ref (ad 0), .int t]) (n := 2) (Nat.le_of_ble_eq_true rfl)
  rw [lg_entry_eq]
  generalize (lg_sl ([.ref (ad 0), .int t]) ++ List.replicate (2 - (lg_sl ([.ref (ad 0), .int t])).length) Slot.unset).toArray = ls at hl ⊢
  replace hl : lv_has ls 2 [(0, .ref (ad 0)), (1, .int t)] := hl
  refine ol_start (A := va_A (mW G ad (nI st) iA iL iT iC iR r pr ar br f pf af bf tx) s.heap.size) (fun H locs hH hS => ?_)
  rw [← hH] at hP
  clear hH
  refine lv_iload_n hx hb dX5_tick_0 rfl (lv_at hl 1 rfl) ?_
  refine lv_iconst (v := 1) hx hb dX5_tick_1 (by decide) ?_
  refine lv_bipush (v := 99) hx hb dX5_tick_2 (by decide) ?_
  refine ol_cR (st1 := [.int (zB (inR t 1 99))]) (va_runS (As := [.int t, .int 1, .int 99]) (rest := []) ⟨hx, hb, hml, hown, hts⟩ (mr_in l G t 1 99 ) (va_cwS 3 hts (lw_S q1210 q1211 q73 q1212) rfl rfl rfl (by decide +kernel) ⟨Nat.le_of_ble_eq_true rfl, Nat.le_of_ble_eq_true rfl⟩) (oPc.preS hE trivial) rfl rfl hl.1 rfl (lv_room (Nat.le_of_ble_eq_true rfl)) dX5_tick_4 ⟨Nat.le_of_ble_eq_true rfl, Nat.le_of_ble_eq_true rfl⟩) rfl ?_
  refine ol_if_neB hx hb (inR t 1 99) (tgt := 13) dX5_tick_7 (by decide) (fun c_7 => ?_) (fun c_7 => ?_)
  · obtain ⟨ht0, ht1, ht2⟩ := inR_1 c_7
    refine lv_aload_n hx hb dX5_tick_13 rfl (lv_at hl 0 rfl) ?_
    refine ol_cM (st1 := []) (va_runV (As := []) (rest := []) ⟨hx, hb, hml, hown, hts⟩ (mm_begin l G ad st iA iL iT iC iR r pr ar br f pf af bf tx (by omega) H.size) (cwV 0 hts (lw_V q1194 q1196 qs22 q73 q1197) rfl rfl rfl (by decide +kernel) ⟨Nat.le_of_ble_eq_true rfl, Nat.le_of_ble_eq_true rfl⟩) (oPc.preV hE (hE.recv (ci := 12) (hP 0 _ rfl) rfl) ⟨rfl, hP, oD_weak hD (fun _ _ => trivial), trivial⟩) rfl rfl hl.1 rfl (lv_room (Nat.le_of_ble_eq_true rfl)) dX5_tick_14 ⟨Nat.le_of_ble_eq_true rfl, Nat.le_of_ble_eq_true rfl⟩) hP hD hS hA rfl (fun H locs hP hD hS => ?_)
    refine lv_aload_n hx hb dX5_tick_17 rfl (lv_at hl 0 rfl) ?_
    refine lv_iload_n hx hb dX5_tick_18 rfl (lv_at hl 1 rfl) ?_
    refine ol_top (y := nI (cN t)) ht1 ?_
    refine ol_cM (st1 := [.int (nI ((mIt r f iC iR Rw Cl (cN t)).2.2.1))]) (va_runV (As := [.int (nI (cN t))]) (rest := []) ⟨hx, hb, hml, hown, hts⟩ (mm_steps l G ad (nI (mRecN st)) iA iL iT iC iR r (mRecP pr (mCp r br 592) st) ar (mCp r br 592) f (mRecF pf (mCf f bf 7) st) af (mCf f bf 7) tx (cN t) Rw Cl ht2 hok H.size) (cwV 1 hts (lw_V q1288 q1290 qs34 q73 q1291) rfl rfl rfl (by decide +kernel) ⟨Nat.le_of_ble_eq_true rfl, Nat.le_of_ble_eq_true rfl⟩) (oPc.preV hE (hE.recv (ci := 12) (hP 0 _ rfl) rfl) ⟨rfl, hP, oD_weak hD (fun _ _ => trivial), trivial⟩) rfl rfl hl.1 rfl (lv_room (Nat.le_of_ble_eq_true rfl)) dX5_tick_19 ⟨Nat.le_of_ble_eq_true rfl, Nat.le_of_ble_eq_true rfl⟩) hP hD hS hA rfl (fun H locs hP hD hS => ?_)
    exact ol_iretE hx hb hr hlocks ⟨congrArg (fun z => some (Value.int z)) (by simp [zB, c_7]), (by simp [zB, c_7])⟩ hP hD hS dX5_tick_22
  · refine lv_bipush (v := (-2)) hx hb dX5_tick_10 (by decide) ?_
    exact ol_iretE hx hb hr hlocks ⟨congrArg (fun z => some (Value.int z)) (by simp [zB, c_7]), (by simp [zB, c_7])⟩ hP hD hS dX5_tick_12
set_option maxHeartbeats 4000000 in
set_option maxRecDepth 100000 in
theorem mm_press (l : Launch) (G : oG) (ad : Nat → Nat) (st : Nat) (iA : Int32) (iL : Int32) (iT : Int32) (iC : Int32) (iR : Int32) (r : Nat → Int32) (pr : Nat → Int32) (ar : Nat → Int32) (br : Nat → Int32) (f : Nat → UInt32) (pf : Nat → UInt32) (af : Nat → UInt32) (bf : Nat → UInt32) (tx : Nat → Int32) (q : Int32) (k : Int32) (Rw Cl : Nat) (hg : mG r Rw Cl) (hst : st ≤ 4) (sz : Nat) : Met l yX5_press (ws_ yX5_press cX5_press 4 (some .int)) ({ frames := 3, cells := 0, slots := 0, locals := 65 }) (oPc G [.ref (ad 0), .int q, .int k] (oPE G (mW G ad (nI st) iA iL iT iC iR r pr ar br f pf af bf tx) sz (fun _ => True))) (oE G (fun v_ W_ => v_ = some (.int (if mAP r (Rw * Cl) q k < 0 then mAP r (Rw * Cl) q k else nI (mHeld (upd r (20 + cN k) q) (Rw * Cl) q))) ∧ W_ = mW G ad (nI (if mAP r (Rw * Cl) q k < 0 then st else (mRecN st))) iA iL iT iC iR (if mAP r (Rw * Cl) q k < 0 then r else upd r (20 + cN k) q) (if mAP r (Rw * Cl) q k < 0 then pr else mRecP pr (mCp r br 592) st) ar (if mAP r (Rw * Cl) q k < 0 then br else mCp r br 592) f (if mAP r (Rw * Cl) q k < 0 then pf else mRecF pf (mCf f bf 7) st) af (if mAP r (Rw * Cl) q k < 0 then bf else mCf f bf 7) tx) (mW G ad (nI st) iA iL iT iC iR r pr ar br f pf af bf tx) sz) 0 0 (va_A (mW G ad (nI st) iA iL iT iC iR r pr ar br f pf af bf tx) sz) := by
  refine Met.ofW (cc := cX5_press) (maxL := 4) (ret := (some .int)) (by decide) rfl ?_
  intro p e s m args below meth c s₁ B hml hv
  obtain ⟨rfl, ⟨hsz, hP, hD0, hX⟩, hE⟩ := hv
  have hx := B.exec
  have hb := B.bytes
  have hr := B.returns
  have hts := atoms_spec (ws := ws_ yX5_press cX5_press 4 (some .int)) B.pre
  have hts : ∀ w ∈ lw_all, w.before _ s = true := fun w h => hts w (List.mem_cons_of_mem _ h)
  have hown : s.vm.findClass RX5 = some m.cls := findClass_of_methodNamed B.named
  have hlocks := B.notSynchronized
  subst hsz
  have hD := hD0.self (sz := s.heap.size)
  have hA : ∀ q : Nat, s.heap.size ≤ q → va_A (mW G ad (nI st) iA iL iT iC iR r pr ar br f pf af bf tx) s.heap.size q := fun q h => Or.inr h
  have hl := lv_entry ([.ref (ad 0), .int q, .int k]) (n := 4) (Nat.le_of_ble_eq_true rfl)
  rw [lg_entry_eq]
  generalize (lg_sl ([.ref (ad 0), .int q, .int k]) ++ List.replicate (4 - (lg_sl ([.ref (ad 0), .int q, .int k])).length) Slot.unset).toArray = ls at hl ⊢
  replace hl : lv_has ls 4 [(0, .ref (ad 0)), (1, .int q), (2, .int k)] := hl
  refine ol_start (A := va_A (mW G ad (nI st) iA iL iT iC iR r pr ar br f pf af bf tx) s.heap.size) (fun H locs hH hS => ?_)
  rw [← hH] at hP
  clear hH
  have hgn := mG_n hg
  have hg' := hg
  obtain ⟨hg0, hg1, hg2, hg3, hg4, hg5⟩ := hg'
  refine lv_aload_n hx hb dX5_press_0 rfl (lv_at hl 0 rfl) ?_
  refine lv_iload_n hx hb dX5_press_1 rfl (lv_at hl 1 rfl) ?_
  refine lv_iload_n hx hb dX5_press_2 rfl (lv_at hl 2 rfl) ?_
  refine ol_cR (st1 := [.int (mAP r (Rw * Cl) q k)]) (va_runV (As := [.int q, .int k]) (rest := []) ⟨hx, hb, hml, hown, hts⟩ (mr_againstPress l G ad (nI st) iA iL iT iC iR r pr ar br f pf af bf tx q k Rw Cl hg) (cwV 2 hts (lw_V q1268 q1270 qs31 q73 q1271) rfl rfl rfl (by decide +kernel) ⟨Nat.le_of_ble_eq_true rfl, Nat.le_of_ble_eq_true rfl⟩) (oPc.preV hE (hE.recv (ci := 12) (hP 0 _ rfl) rfl) hP) rfl rfl hl.1 rfl (lv_room (Nat.le_of_ble_eq_true rfl)) dX5_press_3 ⟨Nat.le_of_ble_eq_true rfl, Nat.le_of_ble_eq_true rfl⟩) rfl ?_
  refine lv_istore_n (lv' := [(3, .int (mAP r (Rw * Cl) q k)), (0, .ref (ad 0)), (1, .int q), (2, .int k)]) hx hb dX5_press_6 rfl hl (by decide) rfl (fun ls hl => ?_)
  refine lv_iload_n hx hb dX5_press_7 rfl (lv_at hl 0 rfl) ?_
  refine lv_if_ge (tgt := 13) hx hb dX5_press_8 (by decide) (fun c_8 => ?_) (fun c_8 => ?_)
  · obtain ⟨ha1, ha2, ha3, ha4, ha5⟩ := mAP_ok (Int32.not_lt.mpr c_8)
    obtain ⟨hk1, hk2⟩ := noK_f ha2 (by omega) (by omega)
    refine lv_aload_n hx hb dX5_press_13 rfl (lv_at hl 1 rfl) ?_
    refine ol_cM (st1 := []) (va_runV (As := []) (rest := []) ⟨hx, hb, hml, hown, hts⟩ (mm_begin l G ad st iA iL iT iC iR r pr ar br f pf af bf tx (by omega) H.size) (cwV 0 hts (lw_V q1194 q1196 qs22 q73 q1197) rfl rfl rfl (by decide +kernel) ⟨Nat.le_of_ble_eq_true rfl, Nat.le_of_ble_eq_true rfl⟩) (oPc.preV hE (hE.recv (ci := 12) (hP 0 _ rfl) rfl) ⟨rfl, hP, oD_weak hD (fun _ _ => trivial), trivial⟩) rfl rfl hl.1 rfl (lv_room (Nat.le_of_ble_eq_true rfl)) dX5_press_14 ⟨Nat.le_of_ble_eq_true rfl, Nat.le_of_ble_eq_true rfl⟩) hP hD hS hA rfl (fun H locs hP hD hS => ?_)
    refine lv_aload_n hx hb dX5_press_17 rfl (lv_at hl 1 rfl) ?_
    refine va_get (D := G.1) (ci := 12) (v := .ref (ad 1)) (C := RX5) (T := TX5) (N := 15) hx hb hts in_X5 hown hE.1 hP 0 rfl rfl 0 (by decide) (hts _ q1135) (fun _ h9 => h9) rfl dX5_press_18 ?_
    refine lv_bipush (v := 20) hx hb dX5_press_21 (by decide) ?_
    refine lv_iload_n hx hb dX5_press_23 rfl (lv_at hl 3 rfl) ?_
    refine ol_top (y := nI (cN k)) hk2 ?_
    refine ol_iadd hx hb 20 (cN k) dX5_press_24 ?_
    refine lv_iload_n hx hb dX5_press_25 rfl (lv_at hl 2 rfl) ?_
    refine ol_iast hx hb hE.1 hP hD hS 1 0 rfl rfl (20 + (cN k)) (by omega) (by decide) dX5_press_26 (fun H locs hP hD hS => ?_)
    replace hP : va_P G.1 cl0 (mW G ad (nI (mRecN st)) iA iL iT iC iR (upd r (20 + (cN k)) q) (mRecP pr (mCp r br 592) st) ar (mCp r br 592) f (mRecF pf (mCf f bf 7) st) af (mCf f bf 7) tx) H := hP
    replace hD : va_D (va_A (mW G ad (nI st) iA iL iT iC iR r pr ar br f pf af bf tx) s.heap.size) (mW G ad (nI (mRecN st)) iA iL iT iC iR (upd r (20 + (cN k)) q) (mRecP pr (mCp r br 592) st) ar (mCp r br 592) f (mRecF pf (mCf f bf 7) st) af (mCf f bf 7) tx) := hD
    refine lv_aload_n hx hb dX5_press_27 rfl (lv_at hl 1 rfl) ?_
    refine lv_iload_n hx hb dX5_press_28 rfl (lv_at hl 2 rfl) ?_
    refine ol_cR (st1 := [.int (nI (mHeld (upd r (20 + (cN k)) q) (Rw * Cl) q))]) (va_runV (As := [.int q]) (rest := []) ⟨hx, hb, hml, hown, hts⟩ (mr_held l G ad (nI (mRecN st)) iA iL iT iC iR (upd r (20 + (cN k)) q) (mRecP pr (mCp r br 592) st) ar (mCp r br 592) f (mRecF pf (mCf f bf 7) st) af (mCf f bf 7) tx q Rw Cl (mG_upd (by omega) hg)) (cwV 1 hts (lw_V q1272 q1274 qs32 q73 q1275) rfl rfl rfl (by decide +kernel) ⟨Nat.le_of_ble_eq_true rfl, Nat.le_of_ble_eq_true rfl⟩) (oPc.preV hE (hE.recv (ci := 12) (hP 0 _ rfl) rfl) hP) rfl rfl hl.1 rfl (lv_room (Nat.le_of_ble_eq_true rfl)) dX5_press_29 ⟨Nat.le_of_ble_eq_true rfl, Nat.le_of_ble_eq_true rfl⟩) rfl ?_
    exact ol_iretE hx hb hr hlocks ⟨congrArg (fun z => some (Value.int z)) (by simp [zB, c_8, Int32.not_lt.mpr c_8]), (by simp [zB, c_8, Int32.not_lt.mpr c_8])⟩ hP hD hS dX5_press_32
  · refine lv_iload_n hx hb dX5_press_11 rfl (lv_at hl 0 rfl) ?_
    exact ol_iretE hx hb hr hlocks ⟨congrArg (fun z => some (Value.int z)) (by simp [zB, c_8, Int32.not_le.mp c_8]), (by simp [zB, c_8, Int32.not_le.mp c_8])⟩ hP hD hS dX5_press_12
set_option maxHeartbeats 4000000 in
set_option maxRecDepth 100000 in
theorem mm_release (l : Launch) (G : oG) (ad : Nat → Nat) (st : Nat) (iA : Int32) (iL : Int32) (iT : Int32) (iC : Int32) (iR : Int32) (r : Nat → Int32) (pr : Nat → Int32) (ar : Nat → Int32) (br : Nat → Int32) (f : Nat → UInt32) (pf : Nat → UInt32) (af : Nat → UInt32) (bf : Nat → UInt32) (tx : Nat → Int32) (q : Int32) (k : Int32) (Rw Cl : Nat) (hg : mG r Rw Cl) (hst : st ≤ 4) (sz : Nat) : Met l yX5_release (ws_ yX5_release cX5_release 4 (some .int)) ({ frames := 3, cells := 0, slots := 0, locals := 65 }) (oPc G [.ref (ad 0), .int q, .int k] (oPE G (mW G ad (nI st) iA iL iT iC iR r pr ar br f pf af bf tx) sz (fun _ => True))) (oE G (fun v_ W_ => v_ = some (.int (if mAR r (Rw * Cl) q k < 0 then mAR r (Rw * Cl) q k else nI (mHeld (upd r (20 + cN k) (-5)) (Rw * Cl) q))) ∧ W_ = mW G ad (nI (if mAR r (Rw * Cl) q k < 0 then st else (mRecN st))) iA iL iT iC iR (if mAR r (Rw * Cl) q k < 0 then r else upd r (20 + cN k) (-5)) (if mAR r (Rw * Cl) q k < 0 then pr else mRecP pr (mCp r br 592) st) ar (if mAR r (Rw * Cl) q k < 0 then br else mCp r br 592) f (if mAR r (Rw * Cl) q k < 0 then pf else mRecF pf (mCf f bf 7) st) af (if mAR r (Rw * Cl) q k < 0 then bf else mCf f bf 7) tx) (mW G ad (nI st) iA iL iT iC iR r pr ar br f pf af bf tx) sz) 0 0 (va_A (mW G ad (nI st) iA iL iT iC iR r pr ar br f pf af bf tx) sz) := by
  refine Met.ofW (cc := cX5_release) (maxL := 4) (ret := (some .int)) (by decide) rfl ?_
  intro p e s m args below meth c s₁ B hml hv
  obtain ⟨rfl, ⟨hsz, hP, hD0, hX⟩, hE⟩ := hv
  have hx := B.exec
  have hb := B.bytes
  have hr := B.returns
  have hts := atoms_spec (ws := ws_ yX5_release cX5_release 4 (some .int)) B.pre
  have hts : ∀ w ∈ lw_all, w.before _ s = true := fun w h => hts w (List.mem_cons_of_mem _ h)
  have hown : s.vm.findClass RX5 = some m.cls := findClass_of_methodNamed B.named
  have hlocks := B.notSynchronized
  subst hsz
  have hD := hD0.self (sz := s.heap.size)
  have hA : ∀ q : Nat, s.heap.size ≤ q → va_A (mW G ad (nI st) iA iL iT iC iR r pr ar br f pf af bf tx) s.heap.size q := fun q h => Or.inr h
  have hl := lv_entry ([.ref (ad 0), .int q, .int k]) (n := 4) (Nat.le_of_ble_eq_true rfl)
  rw [lg_entry_eq]
  generalize (lg_sl ([.ref (ad 0), .int q, .int k]) ++ List.replicate (4 - (lg_sl ([.ref (ad 0), .int q, .int k])).length) Slot.unset).toArray = ls at hl ⊢
  replace hl : lv_has ls 4 [(0, .ref (ad 0)), (1, .int q), (2, .int k)] := hl
  refine ol_start (A := va_A (mW G ad (nI st) iA iL iT iC iR r pr ar br f pf af bf tx) s.heap.size) (fun H locs hH hS => ?_)
  rw [← hH] at hP
  clear hH
  have hgn := mG_n hg
  have hg' := hg
  obtain ⟨hg0, hg1, hg2, hg3, hg4, hg5⟩ := hg'
  refine lv_aload_n hx hb dX5_release_0 rfl (lv_at hl 0 rfl) ?_
  refine lv_iload_n hx hb dX5_release_1 rfl (lv_at hl 1 rfl) ?_
  refine lv_iload_n hx hb dX5_release_2 rfl (lv_at hl 2 rfl) ?_
  refine ol_cR (st1 := [.int (mAR r (Rw * Cl) q k)]) (va_runV (As := [.int q, .int k]) (rest := []) ⟨hx, hb, hml, hown, hts⟩ (mr_againstRelease l G ad (nI st) iA iL iT iC iR r pr ar br f pf af bf tx q k Rw Cl hg) (cwV 2 hts (lw_V q1280 q1282 qs33 q73 q1283) rfl rfl rfl (by decide +kernel) ⟨Nat.le_of_ble_eq_true rfl, Nat.le_of_ble_eq_true rfl⟩) (oPc.preV hE (hE.recv (ci := 12) (hP 0 _ rfl) rfl) hP) rfl rfl hl.1 rfl (lv_room (Nat.le_of_ble_eq_true rfl)) dX5_release_3 ⟨Nat.le_of_ble_eq_true rfl, Nat.le_of_ble_eq_true rfl⟩) rfl ?_
  refine lv_istore_n (lv' := [(3, .int (mAR r (Rw * Cl) q k)), (0, .ref (ad 0)), (1, .int q), (2, .int k)]) hx hb dX5_release_6 rfl hl (by decide) rfl (fun ls hl => ?_)
  refine lv_iload_n hx hb dX5_release_7 rfl (lv_at hl 0 rfl) ?_
  refine lv_if_ge (tgt := 13) hx hb dX5_release_8 (by decide) (fun c_8 => ?_) (fun c_8 => ?_)
  · obtain ⟨ha1, ha2, ha4, ha5⟩ := mAR_ok (Int32.not_lt.mpr c_8)
    obtain ⟨hk1, hk2⟩ := noK_f ha2 (by omega) (by omega)
    refine lv_aload_n hx hb dX5_release_13 rfl (lv_at hl 1 rfl) ?_
    refine ol_cM (st1 := []) (va_runV (As := []) (rest := []) ⟨hx, hb, hml, hown, hts⟩ (mm_begin l G ad st iA iL iT iC iR r pr ar br f pf af bf tx (by omega) H.size) (cwV 0 hts (lw_V q1194 q1196 qs22 q73 q1197) rfl rfl rfl (by decide +kernel) ⟨Nat.le_of_ble_eq_true rfl, Nat.le_of_ble_eq_true rfl⟩) (oPc.preV hE (hE.recv (ci := 12) (hP 0 _ rfl) rfl) ⟨rfl, hP, oD_weak hD (fun _ _ => trivial), trivial⟩) rfl rfl hl.1 rfl (lv_room (Nat.le_of_ble_eq_true rfl)) dX5_release_14 ⟨Nat.le_of_ble_eq_true rfl, Nat.le_of_ble_eq_true rfl⟩) hP hD hS hA rfl (fun H locs hP hD hS => ?_)
    refine lv_aload_n hx hb dX5_release_17 rfl (lv_at hl 1 rfl) ?_
    refine va_get (D := G.1) (ci := 12) (v := .ref (ad 1)) (C := RX5) (T := TX5) (N := 15) hx hb hts in_X5 hown hE.1 hP 0 rfl rfl 0 (by decide) (hts _ q1135) (fun _ h9 => h9) rfl dX5_release_18 ?_
    refine lv_bipush (v := 20) hx hb dX5_release_21 (by decide) ?_
    refine lv_iload_n hx hb dX5_release_23 rfl (lv_at hl 3 rfl) ?_
    refine ol_top (y := nI (cN k)) hk2 ?_
    refine ol_iadd hx hb 20 (cN k) dX5_release_24 ?_
    refine lv_bipush (v := (-5)) hx hb dX5_release_25 (by decide) ?_
    refine ol_iast hx hb hE.1 hP hD hS 1 0 rfl rfl (20 + (cN k)) (by omega) (by decide) dX5_release_27 (fun H locs hP hD hS => ?_)
    replace hP : va_P G.1 cl0 (mW G ad (nI (mRecN st)) iA iL iT iC iR (upd r (20 + (cN k)) (-5)) (mRecP pr (mCp r br 592) st) ar (mCp r br 592) f (mRecF pf (mCf f bf 7) st) af (mCf f bf 7) tx) H := hP
    replace hD : va_D (va_A (mW G ad (nI st) iA iL iT iC iR r pr ar br f pf af bf tx) s.heap.size) (mW G ad (nI (mRecN st)) iA iL iT iC iR (upd r (20 + (cN k)) (-5)) (mRecP pr (mCp r br 592) st) ar (mCp r br 592) f (mRecF pf (mCf f bf 7) st) af (mCf f bf 7) tx) := hD
    refine lv_aload_n hx hb dX5_release_28 rfl (lv_at hl 1 rfl) ?_
    refine lv_iload_n hx hb dX5_release_29 rfl (lv_at hl 2 rfl) ?_
    refine ol_cR (st1 := [.int (nI (mHeld (upd r (20 + (cN k)) (-5)) (Rw * Cl) q))]) (va_runV (As := [.int q]) (rest := []) ⟨hx, hb, hml, hown, hts⟩ (mr_held l G ad (nI (mRecN st)) iA iL iT iC iR (upd r (20 + (cN k)) (-5)) (mRecP pr (mCp r br 592) st) ar (mCp r br 592) f (mRecF pf (mCf f bf 7) st) af (mCf f bf 7) tx q Rw Cl (mG_upd (by omega) hg)) (cwV 1 hts (lw_V q1272 q1274 qs32 q73 q1275) rfl rfl rfl (by decide +kernel) ⟨Nat.le_of_ble_eq_true rfl, Nat.le_of_ble_eq_true rfl⟩) (oPc.preV hE (hE.recv (ci := 12) (hP 0 _ rfl) rfl) hP) rfl rfl hl.1 rfl (lv_room (Nat.le_of_ble_eq_true rfl)) dX5_release_30 ⟨Nat.le_of_ble_eq_true rfl, Nat.le_of_ble_eq_true rfl⟩) rfl ?_
    exact ol_iretE hx hb hr hlocks ⟨congrArg (fun z => some (Value.int z)) (by simp [zB, c_8, Int32.not_lt.mpr c_8]), (by simp [zB, c_8, Int32.not_lt.mpr c_8])⟩ hP hD hS dX5_release_33
  · refine lv_iload_n hx hb dX5_release_11 rfl (lv_at hl 0 rfl) ?_
    exact ol_iretE hx hb hr hlocks ⟨congrArg (fun z => some (Value.int z)) (by simp [zB, c_8, Int32.not_le.mp c_8]), (by simp [zB, c_8, Int32.not_le.mp c_8])⟩ hP hD hS dX5_release_12
set_option maxHeartbeats 4000000 in
set_option maxRecDepth 100000 in
theorem mm_setSign (l : Launch) (G : oG) (ad : Nat → Nat) (st : Nat) (iA : Int32) (iL : Int32) (iT : Int32) (iC : Int32) (iR : Int32) (r : Nat → Int32) (pr : Nat → Int32) (ar : Nat → Int32) (br : Nat → Int32) (f : Nat → UInt32) (pf : Nat → UInt32) (af : Nat → UInt32) (bf : Nat → UInt32) (tx : Nat → Int32) (k : Int32) (x : Int32) (Rw Cl : Nat) (hg : mG r Rw Cl) (hst : st ≤ 4) (sz : Nat) : Met l yX5_setSign (ws_ yX5_setSign cX5_setSign 5 (some .int)) ({ frames := 2, cells := 0, slots := 0, locals := 43 }) (oPc G [.ref (ad 0), .int k, .int x] (oPE G (mW G ad (nI st) iA iL iT iC iR r pr ar br f pf af bf tx) sz (fun _ => True))) (oE G (fun v_ W_ => v_ = some (.int (mSgV r (Rw * Cl) k x)) ∧ W_ = mW G ad (nI (if mSgN r (Rw * Cl) k x = true then st else (mRecN st))) iA iL iT iC iR (if mSgN r (Rw * Cl) k x = true then r else mSgR r k x) (if mSgN r (Rw * Cl) k x = true then pr else mRecP pr (mCp r br 592) st) ar (if mSgN r (Rw * Cl) k x = true then br else mCp r br 592) f (if mSgN r (Rw * Cl) k x = true then pf else mRecF pf (mCf f bf 7) st) af (if mSgN r (Rw * Cl) k x = true then bf else mCf f bf 7) tx) (mW G ad (nI st) iA iL iT iC iR r pr ar br f pf af bf tx) sz) 0 0 (va_A (mW G ad (nI st) iA iL iT iC iR r pr ar br f pf af bf tx) sz) := by
  refine Met.ofW (cc := cX5_setSign) (maxL := 5) (ret := (some .int)) (by decide) rfl ?_
  intro p e s m args below meth c s₁ B hml hv
  obtain ⟨rfl, ⟨hsz, hP, hD0, hX⟩, hE⟩ := hv
  have hx := B.exec
  have hb := B.bytes
  have hr := B.returns
  have hts := atoms_spec (ws := ws_ yX5_setSign cX5_setSign 5 (some .int)) B.pre
  have hts : ∀ w ∈ lw_all, w.before _ s = true := fun w h => hts w (List.mem_cons_of_mem _ h)
  have hown : s.vm.findClass RX5 = some m.cls := findClass_of_methodNamed B.named
  have hlocks := B.notSynchronized
  subst hsz
  have hD := hD0.self (sz := s.heap.size)
  have hA : ∀ q : Nat, s.heap.size ≤ q → va_A (mW G ad (nI st) iA iL iT iC iR r pr ar br f pf af bf tx) s.heap.size q := fun q h => Or.inr h
  have hl := lv_entry ([.ref (ad 0), .int k, .int x]) (n := 5) (Nat.le_of_ble_eq_true rfl)
  rw [lg_entry_eq]
  generalize (lg_sl ([.ref (ad 0), .int k, .int x]) ++ List.replicate (5 - (lg_sl ([.ref (ad 0), .int k, .int x])).length) Slot.unset).toArray = ls at hl ⊢
  replace hl : lv_has ls 5 [(0, .ref (ad 0)), (1, .int k), (2, .int x)] := hl
  refine ol_start (A := va_A (mW G ad (nI st) iA iL iT iC iR r pr ar br f pf af bf tx) s.heap.size) (fun H locs hH hS => ?_)
  rw [← hH] at hP
  clear hH
  have hgn := mG_n hg
  have hg' := hg
  obtain ⟨hg0, hg1, hg2, hg3, hg4, hg5⟩ := hg'
  refine lv_aload_n hx hb dX5_setSign_0 rfl (lv_at hl 0 rfl) ?_
  refine lv_iload_n hx hb dX5_setSign_1 rfl (lv_at hl 1 rfl) ?_
  refine ol_cR (st1 := [.int (zB (noK k (Rw * Cl)))]) (va_runV (As := [.int k]) (rest := []) ⟨hx, hb, hml, hown, hts⟩ (mr_noKey l G ad (nI st) iA iL iT iC iR r pr ar br f pf af bf tx k Rw Cl hg) (cwV 1 hts (lw_V q1229 q1231 qs28 q73 q1232) rfl rfl rfl (by decide +kernel) ⟨Nat.le_of_ble_eq_true rfl, Nat.le_of_ble_eq_true rfl⟩) (oPc.preV hE (hE.recv (ci := 12) (hP 0 _ rfl) rfl) hP) rfl rfl hl.1 rfl (lv_room (Nat.le_of_ble_eq_true rfl)) dX5_setSign_2 ⟨Nat.le_of_ble_eq_true rfl, Nat.le_of_ble_eq_true rfl⟩) rfl ?_
  refine ol_if_eqB hx hb (noK k (Rw * Cl)) (tgt := 10) dX5_setSign_5 (by decide) (fun c_5 => ?_) (fun c_5 => ?_)
  · obtain ⟨hk1, hk2⟩ := noK_f (c_5) (by omega) (by omega)
    refine lv_iload_n hx hb dX5_setSign_10 rfl (lv_at hl 2 rfl) ?_
    refine lv_bipush (v := 97) hx hb dX5_setSign_11 (by decide) ?_
    refine lv_bipush (v := 122) hx hb dX5_setSign_13 (by decide) ?_
    refine ol_cR (st1 := [.int (zB (inR x 97 122))]) (va_runS (As := [.int x, .int 97, .int 122]) (rest := []) ⟨hx, hb, hml, hown, hts⟩ (mr_in l G x 97 122 ) (va_cwS 3 hts (lw_S q1210 q1211 q73 q1212) rfl rfl rfl (by decide +kernel) ⟨Nat.le_of_ble_eq_true rfl, Nat.le_of_ble_eq_true rfl⟩) (oPc.preS hE trivial) rfl rfl hl.1 rfl (lv_room (Nat.le_of_ble_eq_true rfl)) dX5_setSign_15 ⟨Nat.le_of_ble_eq_true rfl, Nat.le_of_ble_eq_true rfl⟩) rfl ?_
    refine ol_if_neB hx hb (inR x 97 122) (tgt := 30) dX5_setSign_18 (by decide) (fun c_18 => ?_) (fun c_18 => ?_)
    · refine lv_aload_n hx hb dX5_setSign_30 rfl (lv_at hl 0 rfl) ?_
      refine va_get (D := G.1) (ci := 12) (v := .ref (ad 1)) (C := RX5) (T := TX5) (N := 15) hx hb hts in_X5 hown hE.1 hP 0 rfl rfl 0 (by decide) (hts _ q1135) (fun _ h9 => h9) rfl dX5_setSign_31 ?_
      refine lv_sipush (v := 260) hx hb dX5_setSign_34 (by decide) ?_
      refine lv_iload_n hx hb dX5_setSign_37 rfl (lv_at hl 1 rfl) ?_
      refine ol_top (y := nI (cN k)) hk2 ?_
      refine ol_iadd hx hb 260 (cN k) dX5_setSign_38 ?_
      refine ol_iald hx hb hE.1 hP 1 0 rfl rfl (260 + (cN k)) (by omega) (by decide) dX5_setSign_39 ?_
      refine lv_istore_n (lv' := [(3, .int (r (260 + (cN k)))), (0, .ref (ad 0)), (1, .int k), (2, .int x)]) hx hb dX5_setSign_40 rfl hl (by decide) rfl (fun ls hl => ?_)
      refine lv_aload_n hx hb dX5_setSign_41 rfl (lv_at hl 1 rfl) ?_
      refine lv_iload_n hx hb dX5_setSign_42 rfl (lv_at hl 2 rfl) ?_
      refine ol_cR (st1 := [.int (mSh r k)]) (va_runV (As := [.int k]) (rest := []) ⟨hx, hb, hml, hown, hts⟩ (mr_shiftOf l G ad (nI st) iA iL iT iC iR r pr ar br f pf af bf tx k ) (cwV 1 hts (lw_V q1233 q1235 qs29 q73 q1236) rfl rfl rfl (by decide +kernel) ⟨Nat.le_of_ble_eq_true rfl, Nat.le_of_ble_eq_true rfl⟩) (oPc.preV hE (hE.recv (ci := 12) (hP 0 _ rfl) rfl) hP) rfl rfl hl.1 rfl (lv_room (Nat.le_of_ble_eq_true rfl)) dX5_setSign_43 ⟨Nat.le_of_ble_eq_true rfl, Nat.le_of_ble_eq_true rfl⟩) rfl ?_
      refine lv_istore (lv' := [(4, .int (mSh r k)), (3, .int (r (260 + (cN k)))), (0, .ref (ad 0)), (1, .int k), (2, .int x)]) hx hb dX5_setSign_46 hl (by decide) rfl (fun ls hl => ?_)
      refine lv_iload_n hx hb dX5_setSign_48 rfl (lv_at hl 1 rfl) ?_
      refine lv_iload_n hx hb dX5_setSign_49 rfl (lv_at hl 4 rfl) ?_
      refine lv_icmp_ne (tgt := 61) hx hb dX5_setSign_50 (by decide) (fun c_50 => ?_) (fun c_50 => ?_)
      · refine lv_aload_n hx hb dX5_setSign_61 rfl (lv_at hl 2 rfl) ?_
        refine ol_cM (st1 := []) (va_runV (As := []) (rest := []) ⟨hx, hb, hml, hown, hts⟩ (mm_begin l G ad st iA iL iT iC iR r pr ar br f pf af bf tx (by omega) H.size) (cwV 0 hts (lw_V q1194 q1196 qs22 q73 q1197) rfl rfl rfl (by decide +kernel) ⟨Nat.le_of_ble_eq_true rfl, Nat.le_of_ble_eq_true rfl⟩) (oPc.preV hE (hE.recv (ci := 12) (hP 0 _ rfl) rfl) ⟨rfl, hP, oD_weak hD (fun _ _ => trivial), trivial⟩) rfl rfl hl.1 rfl (lv_room (Nat.le_of_ble_eq_true rfl)) dX5_setSign_62 ⟨Nat.le_of_ble_eq_true rfl, Nat.le_of_ble_eq_true rfl⟩) hP hD hS hA rfl (fun H locs hP hD hS => ?_)
        refine lv_aload_n hx hb dX5_setSign_65 rfl (lv_at hl 2 rfl) ?_
        refine va_get (D := G.1) (ci := 12) (v := .ref (ad 1)) (C := RX5) (T := TX5) (N := 15) hx hb hts in_X5 hown hE.1 hP 0 rfl rfl 0 (by decide) (hts _ q1135) (fun _ h9 => h9) rfl dX5_setSign_66 ?_
        refine lv_sipush (v := 260) hx hb dX5_setSign_69 (by decide) ?_
        refine lv_iload_n hx hb dX5_setSign_72 rfl (lv_at hl 3 rfl) ?_
        refine ol_top (y := nI (cN k)) hk2 ?_
        refine ol_iadd hx hb 260 (cN k) dX5_setSign_73 ?_
        refine lv_iload_n hx hb dX5_setSign_74 rfl (lv_at hl 4 rfl) ?_
        refine ol_iast hx hb hE.1 hP hD hS 1 0 rfl rfl (260 + (cN k)) (by omega) (by decide) dX5_setSign_75 (fun H locs hP hD hS => ?_)
        replace hP : va_P G.1 cl0 (mW G ad (nI (mRecN st)) iA iL iT iC iR (upd r (260 + (cN k)) x) (mRecP pr (mCp r br 592) st) ar (mCp r br 592) f (mRecF pf (mCf f bf 7) st) af (mCf f bf 7) tx) H := hP
        replace hD : va_D (va_A (mW G ad (nI st) iA iL iT iC iR r pr ar br f pf af bf tx) s.heap.size) (mW G ad (nI (mRecN st)) iA iL iT iC iR (upd r (260 + (cN k)) x) (mRecP pr (mCp r br 592) st) ar (mCp r br 592) f (mRecF pf (mCf f bf 7) st) af (mCf f bf 7) tx) := hD
        refine lv_iload hx hb dX5_setSign_76 (lv_at hl 0 rfl) ?_
        refine lv_if_lt (tgt := 92) hx hb dX5_setSign_78 (by decide) (fun c_78 => ?_) (fun c_78 => ?_)
        · refine lv_iload_n hx hb dX5_setSign_92 rfl (lv_at hl 1 rfl) ?_
          exact ol_iretE hx hb hr hlocks ⟨congrArg (fun z => some (Value.int z)) (by simp [mSgN, mSgV, mSgR, zB, c_5, c_18, c_50, c_78, Int32.not_le.mpr c_78]), (by simp [mSgN, mSgV, mSgR, zB, c_5, c_18, c_50, c_78, Int32.not_le.mpr c_78])⟩ hP hD hS dX5_setSign_93
        · obtain ⟨ho1, ho2⟩ := mSh_n c_78
          refine lv_aload_n hx hb dX5_setSign_81 rfl (lv_at hl 2 rfl) ?_
          refine va_get (D := G.1) (ci := 12) (v := .ref (ad 1)) (C := RX5) (T := TX5) (N := 15) hx hb hts in_X5 hown hE.1 hP 0 rfl rfl 0 (by decide) (hts _ q1135) (fun _ h9 => h9) rfl dX5_setSign_82 ?_
          refine lv_iconst (v := 5) hx hb dX5_setSign_85 (by decide) ?_
          refine lv_iload hx hb dX5_setSign_86 (lv_at hl 0 rfl) ?_
          refine ol_top (y := nI (cN (mSh r k))) ho2 ?_
          refine ol_iadd hx hb 5 (cN (mSh r k)) dX5_setSign_88 ?_
          refine lv_bipush (v := (-5)) hx hb dX5_setSign_89 (by decide) ?_
          refine ol_iast hx hb hE.1 hP hD hS 1 0 rfl rfl (5 + (cN (mSh r k))) (by omega) (by decide) dX5_setSign_91 (fun H locs hP hD hS => ?_)
          replace hP : va_P G.1 cl0 (mW G ad (nI (mRecN st)) iA iL iT iC iR (upd (upd r (260 + (cN k)) x) (5 + (cN (mSh r k))) (-5)) (mRecP pr (mCp r br 592) st) ar (mCp r br 592) f (mRecF pf (mCf f bf 7) st) af (mCf f bf 7) tx) H := hP
          replace hD : va_D (va_A (mW G ad (nI st) iA iL iT iC iR r pr ar br f pf af bf tx) s.heap.size) (mW G ad (nI (mRecN st)) iA iL iT iC iR (upd (upd r (260 + (cN k)) x) (5 + (cN (mSh r k))) (-5)) (mRecP pr (mCp r br 592) st) ar (mCp r br 592) f (mRecF pf (mCf f bf 7) st) af (mCf f bf 7) tx) := hD
          refine lv_iload_n hx hb dX5_setSign_92 rfl (lv_at hl 1 rfl) ?_
          exact ol_iretE hx hb hr hlocks ⟨congrArg (fun z => some (Value.int z)) (by simp [mSgN, mSgV, mSgR, zB, c_5, c_18, c_50, c_78, Int32.not_lt.mp c_78]), (by simp [mSgN, mSgV, mSgR, zB, c_5, c_18, c_50, c_78, Int32.not_lt.mp c_78])⟩ hP hD hS dX5_setSign_93
      · refine lv_iload hx hb dX5_setSign_53 (lv_at hl 0 rfl) ?_
        refine lv_if_ge (tgt := 61) hx hb dX5_setSign_55 (by decide) (fun c_55 => ?_) (fun c_55 => ?_)
        · refine lv_aload_n hx hb dX5_setSign_61 rfl (lv_at hl 2 rfl) ?_
          refine ol_cM (st1 := []) (va_runV (As := []) (rest := []) ⟨hx, hb, hml, hown, hts⟩ (mm_begin l G ad st iA iL iT iC iR r pr ar br f pf af bf tx (by omega) H.size) (cwV 0 hts (lw_V q1194 q1196 qs22 q73 q1197) rfl rfl rfl (by decide +kernel) ⟨Nat.le_of_ble_eq_true rfl, Nat.le_of_ble_eq_true rfl⟩) (oPc.preV hE (hE.recv (ci := 12) (hP 0 _ rfl) rfl) ⟨rfl, hP, oD_weak hD (fun _ _ => trivial), trivial⟩) rfl rfl hl.1 rfl (lv_room (Nat.le_of_ble_eq_true rfl)) dX5_setSign_62 ⟨Nat.le_of_ble_eq_true rfl, Nat.le_of_ble_eq_true rfl⟩) hP hD hS hA rfl (fun H locs hP hD hS => ?_)
          refine lv_aload_n hx hb dX5_setSign_65 rfl (lv_at hl 2 rfl) ?_
          refine va_get (D := G.1) (ci := 12) (v := .ref (ad 1)) (C := RX5) (T := TX5) (N := 15) hx hb hts in_X5 hown hE.1 hP 0 rfl rfl 0 (by decide) (hts _ q1135) (fun _ h9 => h9) rfl dX5_setSign_66 ?_
          refine lv_sipush (v := 260) hx hb dX5_setSign_69 (by decide) ?_
          refine lv_iload_n hx hb dX5_setSign_72 rfl (lv_at hl 3 rfl) ?_
          refine ol_top (y := nI (cN k)) hk2 ?_
          refine ol_iadd hx hb 260 (cN k) dX5_setSign_73 ?_
          refine lv_iload_n hx hb dX5_setSign_74 rfl (lv_at hl 4 rfl) ?_
          refine ol_iast hx hb hE.1 hP hD hS 1 0 rfl rfl (260 + (cN k)) (by omega) (by decide) dX5_setSign_75 (fun H locs hP hD hS => ?_)
          replace hP : va_P G.1 cl0 (mW G ad (nI (mRecN st)) iA iL iT iC iR (upd r (260 + (cN k)) x) (mRecP pr (mCp r br 592) st) ar (mCp r br 592) f (mRecF pf (mCf f bf 7) st) af (mCf f bf 7) tx) H := hP
          replace hD : va_D (va_A (mW G ad (nI st) iA iL iT iC iR r pr ar br f pf af bf tx) s.heap.size) (mW G ad (nI (mRecN st)) iA iL iT iC iR (upd r (260 + (cN k)) x) (mRecP pr (mCp r br 592) st) ar (mCp r br 592) f (mRecF pf (mCf f bf 7) st) af (mCf f bf 7) tx) := hD
          refine lv_iload hx hb dX5_setSign_76 (lv_at hl 0 rfl) ?_
          refine lv_if_lt (tgt := 92) hx hb dX5_setSign_78 (by decide) (fun c_78 => ?_) (fun c_78 => ?_)
          · exact absurd c_78 (Int32.not_lt.mpr c_55)
          · obtain ⟨ho1, ho2⟩ := mSh_n c_78
            refine lv_aload_n hx hb dX5_setSign_81 rfl (lv_at hl 2 rfl) ?_
            refine va_get (D := G.1) (ci := 12) (v := .ref (ad 1)) (C := RX5) (T := TX5) (N := 15) hx hb hts in_X5 hown hE.1 hP 0 rfl rfl 0 (by decide) (hts _ q1135) (fun _ h9 => h9) rfl dX5_setSign_82 ?_
            refine lv_iconst (v := 5) hx hb dX5_setSign_85 (by decide) ?_
            refine lv_iload hx hb dX5_setSign_86 (lv_at hl 0 rfl) ?_
            refine ol_top (y := nI (cN (mSh r k))) ho2 ?_
            refine ol_iadd hx hb 5 (cN (mSh r k)) dX5_setSign_88 ?_
            refine lv_bipush (v := (-5)) hx hb dX5_setSign_89 (by decide) ?_
            refine ol_iast hx hb hE.1 hP hD hS 1 0 rfl rfl (5 + (cN (mSh r k))) (by omega) (by decide) dX5_setSign_91 (fun H locs hP hD hS => ?_)
            replace hP : va_P G.1 cl0 (mW G ad (nI (mRecN st)) iA iL iT iC iR (upd (upd r (260 + (cN k)) x) (5 + (cN (mSh r k))) (-5)) (mRecP pr (mCp r br 592) st) ar (mCp r br 592) f (mRecF pf (mCf f bf 7) st) af (mCf f bf 7) tx) H := hP
            replace hD : va_D (va_A (mW G ad (nI st) iA iL iT iC iR r pr ar br f pf af bf tx) s.heap.size) (mW G ad (nI (mRecN st)) iA iL iT iC iR (upd (upd r (260 + (cN k)) x) (5 + (cN (mSh r k))) (-5)) (mRecP pr (mCp r br 592) st) ar (mCp r br 592) f (mRecF pf (mCf f bf 7) st) af (mCf f bf 7) tx) := hD
            refine lv_iload_n hx hb dX5_setSign_92 rfl (lv_at hl 1 rfl) ?_
            exact ol_iretE hx hb hr hlocks ⟨congrArg (fun z => some (Value.int z)) (by simp [mSgN, mSgV, mSgR, zB, c_5, c_18, c_50, c_55, Int32.not_lt.mpr c_55, c_78, Int32.not_lt.mp c_78]), (by simp [mSgN, mSgV, mSgR, zB, c_5, c_18, c_50, c_55, Int32.not_lt.mpr c_55, c_78, Int32.not_lt.mp c_78])⟩ hP hD hS dX5_setSign_93
        · refine lv_bipush (v := (-5)) hx hb dX5_setSign_58 (by decide) ?_
          exact ol_iretE hx hb hr hlocks ⟨congrArg (fun z => some (Value.int z)) (by simp [mSgN, mSgV, mSgR, zB, c_5, c_18, c_50, c_55, Int32.not_le.mp c_55]), (by simp [mSgN, mSgV, mSgR, zB, c_5, c_18, c_50, c_55, Int32.not_le.mp c_55])⟩ hP hD hS dX5_setSign_60
    · refine lv_iload_n hx hb dX5_setSign_21 rfl (lv_at hl 2 rfl) ?_
      refine lv_bipush (v := 46) hx hb dX5_setSign_22 (by decide) ?_
      refine lv_icmp_eq (tgt := 30) hx hb dX5_setSign_24 (by decide) (fun c_24 => ?_) (fun c_24 => ?_)
      · subst c_24
        refine lv_aload_n hx hb dX5_setSign_30 rfl (lv_at hl 0 rfl) ?_
        refine va_get (D := G.1) (ci := 12) (v := .ref (ad 1)) (C := RX5) (T := TX5) (N := 15) hx hb hts in_X5 hown hE.1 hP 0 rfl rfl 0 (by decide) (hts _ q1135) (fun _ h9 => h9) rfl dX5_setSign_31 ?_
        refine lv_sipush (v := 260) hx hb dX5_setSign_34 (by decide) ?_
        refine lv_iload_n hx hb dX5_setSign_37 rfl (lv_at hl 1 rfl) ?_
        refine ol_top (y := nI (cN k)) hk2 ?_
        refine ol_iadd hx hb 260 (cN k) dX5_setSign_38 ?_
        refine ol_iald hx hb hE.1 hP 1 0 rfl rfl (260 + (cN k)) (by omega) (by decide) dX5_setSign_39 ?_
        refine lv_istore_n (lv' := [(3, .int (r (260 + (cN k)))), (0, .ref (ad 0)), (1, .int k), (2, .int 46)]) hx hb dX5_setSign_40 rfl hl (by decide) rfl (fun ls hl => ?_)
        refine lv_aload_n hx hb dX5_setSign_41 rfl (lv_at hl 1 rfl) ?_
        refine lv_iload_n hx hb dX5_setSign_42 rfl (lv_at hl 2 rfl) ?_
        refine ol_cR (st1 := [.int (mSh r k)]) (va_runV (As := [.int k]) (rest := []) ⟨hx, hb, hml, hown, hts⟩ (mr_shiftOf l G ad (nI st) iA iL iT iC iR r pr ar br f pf af bf tx k ) (cwV 1 hts (lw_V q1233 q1235 qs29 q73 q1236) rfl rfl rfl (by decide +kernel) ⟨Nat.le_of_ble_eq_true rfl, Nat.le_of_ble_eq_true rfl⟩) (oPc.preV hE (hE.recv (ci := 12) (hP 0 _ rfl) rfl) hP) rfl rfl hl.1 rfl (lv_room (Nat.le_of_ble_eq_true rfl)) dX5_setSign_43 ⟨Nat.le_of_ble_eq_true rfl, Nat.le_of_ble_eq_true rfl⟩) rfl ?_
        refine lv_istore (lv' := [(4, .int (mSh r k)), (3, .int (r (260 + (cN k)))), (0, .ref (ad 0)), (1, .int k), (2, .int 46)]) hx hb dX5_setSign_46 hl (by decide) rfl (fun ls hl => ?_)
        refine lv_iload_n hx hb dX5_setSign_48 rfl (lv_at hl 1 rfl) ?_
        refine lv_iload_n hx hb dX5_setSign_49 rfl (lv_at hl 4 rfl) ?_
        refine lv_icmp_ne (tgt := 61) hx hb dX5_setSign_50 (by decide) (fun c_50 => ?_) (fun c_50 => ?_)
        · refine lv_aload_n hx hb dX5_setSign_61 rfl (lv_at hl 2 rfl) ?_
          refine ol_cM (st1 := []) (va_runV (As := []) (rest := []) ⟨hx, hb, hml, hown, hts⟩ (mm_begin l G ad st iA iL iT iC iR r pr ar br f pf af bf tx (by omega) H.size) (cwV 0 hts (lw_V q1194 q1196 qs22 q73 q1197) rfl rfl rfl (by decide +kernel) ⟨Nat.le_of_ble_eq_true rfl, Nat.le_of_ble_eq_true rfl⟩) (oPc.preV hE (hE.recv (ci := 12) (hP 0 _ rfl) rfl) ⟨rfl, hP, oD_weak hD (fun _ _ => trivial), trivial⟩) rfl rfl hl.1 rfl (lv_room (Nat.le_of_ble_eq_true rfl)) dX5_setSign_62 ⟨Nat.le_of_ble_eq_true rfl, Nat.le_of_ble_eq_true rfl⟩) hP hD hS hA rfl (fun H locs hP hD hS => ?_)
          refine lv_aload_n hx hb dX5_setSign_65 rfl (lv_at hl 2 rfl) ?_
          refine va_get (D := G.1) (ci := 12) (v := .ref (ad 1)) (C := RX5) (T := TX5) (N := 15) hx hb hts in_X5 hown hE.1 hP 0 rfl rfl 0 (by decide) (hts _ q1135) (fun _ h9 => h9) rfl dX5_setSign_66 ?_
          refine lv_sipush (v := 260) hx hb dX5_setSign_69 (by decide) ?_
          refine lv_iload_n hx hb dX5_setSign_72 rfl (lv_at hl 3 rfl) ?_
          refine ol_top (y := nI (cN k)) hk2 ?_
          refine ol_iadd hx hb 260 (cN k) dX5_setSign_73 ?_
          refine lv_iload_n hx hb dX5_setSign_74 rfl (lv_at hl 4 rfl) ?_
          refine ol_iast hx hb hE.1 hP hD hS 1 0 rfl rfl (260 + (cN k)) (by omega) (by decide) dX5_setSign_75 (fun H locs hP hD hS => ?_)
          replace hP : va_P G.1 cl0 (mW G ad (nI (mRecN st)) iA iL iT iC iR (upd r (260 + (cN k)) 46) (mRecP pr (mCp r br 592) st) ar (mCp r br 592) f (mRecF pf (mCf f bf 7) st) af (mCf f bf 7) tx) H := hP
          replace hD : va_D (va_A (mW G ad (nI st) iA iL iT iC iR r pr ar br f pf af bf tx) s.heap.size) (mW G ad (nI (mRecN st)) iA iL iT iC iR (upd r (260 + (cN k)) 46) (mRecP pr (mCp r br 592) st) ar (mCp r br 592) f (mRecF pf (mCf f bf 7) st) af (mCf f bf 7) tx) := hD
          refine lv_iload hx hb dX5_setSign_76 (lv_at hl 0 rfl) ?_
          refine lv_if_lt (tgt := 92) hx hb dX5_setSign_78 (by decide) (fun c_78 => ?_) (fun c_78 => ?_)
          · refine lv_iload_n hx hb dX5_setSign_92 rfl (lv_at hl 1 rfl) ?_
            exact ol_iretE hx hb hr hlocks ⟨congrArg (fun z => some (Value.int z)) (by simp [mSgN, mSgV, mSgR, zB, c_5, c_18, c_50, c_78, Int32.not_le.mpr c_78]), (by simp [mSgN, mSgV, mSgR, zB, c_5, c_18, c_50, c_78, Int32.not_le.mpr c_78])⟩ hP hD hS dX5_setSign_93
          · obtain ⟨ho1, ho2⟩ := mSh_n c_78
            refine lv_aload_n hx hb dX5_setSign_81 rfl (lv_at hl 2 rfl) ?_
            refine va_get (D := G.1) (ci := 12) (v := .ref (ad 1)) (C := RX5) (T := TX5) (N := 15) hx hb hts in_X5 hown hE.1 hP 0 rfl rfl 0 (by decide) (hts _ q1135) (fun _ h9 => h9) rfl dX5_setSign_82 ?_
            refine lv_iconst (v := 5) hx hb dX5_setSign_85 (by decide) ?_
            refine lv_iload hx hb dX5_setSign_86 (lv_at hl 0 rfl) ?_
            refine ol_top (y := nI (cN (mSh r k))) ho2 ?_
            refine ol_iadd hx hb 5 (cN (mSh r k)) dX5_setSign_88 ?_
            refine lv_bipush (v := (-5)) hx hb dX5_setSign_89 (by decide) ?_
            refine ol_iast hx hb hE.1 hP hD hS 1 0 rfl rfl (5 + (cN (mSh r k))) (by omega) (by decide) dX5_setSign_91 (fun H locs hP hD hS => ?_)
            replace hP : va_P G.1 cl0 (mW G ad (nI (mRecN st)) iA iL iT iC iR (upd (upd r (260 + (cN k)) 46) (5 + (cN (mSh r k))) (-5)) (mRecP pr (mCp r br 592) st) ar (mCp r br 592) f (mRecF pf (mCf f bf 7) st) af (mCf f bf 7) tx) H := hP
            replace hD : va_D (va_A (mW G ad (nI st) iA iL iT iC iR r pr ar br f pf af bf tx) s.heap.size) (mW G ad (nI (mRecN st)) iA iL iT iC iR (upd (upd r (260 + (cN k)) 46) (5 + (cN (mSh r k))) (-5)) (mRecP pr (mCp r br 592) st) ar (mCp r br 592) f (mRecF pf (mCf f bf 7) st) af (mCf f bf 7) tx) := hD
            refine lv_iload_n hx hb dX5_setSign_92 rfl (lv_at hl 1 rfl) ?_
            exact ol_iretE hx hb hr hlocks ⟨congrArg (fun z => some (Value.int z)) (by simp [mSgN, mSgV, mSgR, zB, c_5, c_18, c_50, c_78, Int32.not_lt.mp c_78]), (by simp [mSgN, mSgV, mSgR, zB, c_5, c_18, c_50, c_78, Int32.not_lt.mp c_78])⟩ hP hD hS dX5_setSign_93
        · refine lv_iload hx hb dX5_setSign_53 (lv_at hl 0 rfl) ?_
          refine lv_if_ge (tgt := 61) hx hb dX5_setSign_55 (by decide) (fun c_55 => ?_) (fun c_55 => ?_)
          · refine lv_aload_n hx hb dX5_setSign_61 rfl (lv_at hl 2 rfl) ?_
            refine ol_cM (st1 := []) (va_runV (As := []) (rest := []) ⟨hx, hb, hml, hown, hts⟩ (mm_begin l G ad st iA iL iT iC iR r pr ar br f pf af bf tx (by omega) H.size) (cwV 0 hts (lw_V q1194 q1196 qs22 q73 q1197) rfl rfl rfl (by decide +kernel) ⟨Nat.le_of_ble_eq_true rfl, Nat.le_of_ble_eq_true rfl⟩) (oPc.preV hE (hE.recv (ci := 12) (hP 0 _ rfl) rfl) ⟨rfl, hP, oD_weak hD (fun _ _ => trivial), trivial⟩) rfl rfl hl.1 rfl (lv_room (Nat.le_of_ble_eq_true rfl)) dX5_setSign_62 ⟨Nat.le_of_ble_eq_true rfl, Nat.le_of_ble_eq_true rfl⟩) hP hD hS hA rfl (fun H locs hP hD hS => ?_)
            refine lv_aload_n hx hb dX5_setSign_65 rfl (lv_at hl 2 rfl) ?_
            refine va_get (D := G.1) (ci := 12) (v := .ref (ad 1)) (C := RX5) (T := TX5) (N := 15) hx hb hts in_X5 hown hE.1 hP 0 rfl rfl 0 (by decide) (hts _ q1135) (fun _ h9 => h9) rfl dX5_setSign_66 ?_
            refine lv_sipush (v := 260) hx hb dX5_setSign_69 (by decide) ?_
            refine lv_iload_n hx hb dX5_setSign_72 rfl (lv_at hl 3 rfl) ?_
            refine ol_top (y := nI (cN k)) hk2 ?_
            refine ol_iadd hx hb 260 (cN k) dX5_setSign_73 ?_
            refine lv_iload_n hx hb dX5_setSign_74 rfl (lv_at hl 4 rfl) ?_
            refine ol_iast hx hb hE.1 hP hD hS 1 0 rfl rfl (260 + (cN k)) (by omega) (by decide) dX5_setSign_75 (fun H locs hP hD hS => ?_)
            replace hP : va_P G.1 cl0 (mW G ad (nI (mRecN st)) iA iL iT iC iR (upd r (260 + (cN k)) 46) (mRecP pr (mCp r br 592) st) ar (mCp r br 592) f (mRecF pf (mCf f bf 7) st) af (mCf f bf 7) tx) H := hP
            replace hD : va_D (va_A (mW G ad (nI st) iA iL iT iC iR r pr ar br f pf af bf tx) s.heap.size) (mW G ad (nI (mRecN st)) iA iL iT iC iR (upd r (260 + (cN k)) 46) (mRecP pr (mCp r br 592) st) ar (mCp r br 592) f (mRecF pf (mCf f bf 7) st) af (mCf f bf 7) tx) := hD
            refine lv_iload hx hb dX5_setSign_76 (lv_at hl 0 rfl) ?_
            refine lv_if_lt (tgt := 92) hx hb dX5_setSign_78 (by decide) (fun c_78 => ?_) (fun c_78 => ?_)
            · exact absurd c_78 (Int32.not_lt.mpr c_55)
            · obtain ⟨ho1, ho2⟩ := mSh_n c_78
              refine lv_aload_n hx hb dX5_setSign_81 rfl (lv_at hl 2 rfl) ?_
              refine va_get (D := G.1) (ci := 12) (v := .ref (ad 1)) (C := RX5) (T := TX5) (N := 15) hx hb hts in_X5 hown hE.1 hP 0 rfl rfl 0 (by decide) (hts _ q1135) (fun _ h9 => h9) rfl dX5_setSign_82 ?_
              refine lv_iconst (v := 5) hx hb dX5_setSign_85 (by decide) ?_
              refine lv_iload hx hb dX5_setSign_86 (lv_at hl 0 rfl) ?_
              refine ol_top (y := nI (cN (mSh r k))) ho2 ?_
              refine ol_iadd hx hb 5 (cN (mSh r k)) dX5_setSign_88 ?_
              refine lv_bipush (v := (-5)) hx hb dX5_setSign_89 (by decide) ?_
              refine ol_iast hx hb hE.1 hP hD hS 1 0 rfl rfl (5 + (cN (mSh r k))) (by omega) (by decide) dX5_setSign_91 (fun H locs hP hD hS => ?_)
              replace hP : va_P G.1 cl0 (mW G ad (nI (mRecN st)) iA iL iT iC iR (upd (upd r (260 + (cN k)) 46) (5 + (cN (mSh r k))) (-5)) (mRecP pr (mCp r br 592) st) ar (mCp r br 592) f (mRecF pf (mCf f bf 7) st) af (mCf f bf 7) tx) H := hP
              replace hD : va_D (va_A (mW G ad (nI st) iA iL iT iC iR r pr ar br f pf af bf tx) s.heap.size) (mW G ad (nI (mRecN st)) iA iL iT iC iR (upd (upd r (260 + (cN k)) 46) (5 + (cN (mSh r k))) (-5)) (mRecP pr (mCp r br 592) st) ar (mCp r br 592) f (mRecF pf (mCf f bf 7) st) af (mCf f bf 7) tx) := hD
              refine lv_iload_n hx hb dX5_setSign_92 rfl (lv_at hl 1 rfl) ?_
              exact ol_iretE hx hb hr hlocks ⟨congrArg (fun z => some (Value.int z)) (by simp [mSgN, mSgV, mSgR, zB, c_5, c_18, c_50, c_55, Int32.not_lt.mpr c_55, c_78, Int32.not_lt.mp c_78]), (by simp [mSgN, mSgV, mSgR, zB, c_5, c_18, c_50, c_55, Int32.not_lt.mpr c_55, c_78, Int32.not_lt.mp c_78])⟩ hP hD hS dX5_setSign_93
          · refine lv_bipush (v := (-5)) hx hb dX5_setSign_58 (by decide) ?_
            exact ol_iretE hx hb hr hlocks ⟨congrArg (fun z => some (Value.int z)) (by simp [mSgN, mSgV, mSgR, zB, c_5, c_18, c_50, c_55, Int32.not_le.mp c_55]), (by simp [mSgN, mSgV, mSgR, zB, c_5, c_18, c_50, c_55, Int32.not_le.mp c_55])⟩ hP hD hS dX5_setSign_60
      · refine lv_bipush (v := (-2)) hx hb dX5_setSign_27 (by decide) ?_
        exact ol_iretE hx hb hr hlocks ⟨congrArg (fun z => some (Value.int z)) (by simp [mSgN, mSgV, mSgR, zB, c_5, c_18, c_24]), (by simp [mSgN, mSgV, mSgR, zB, c_5, c_18, c_24])⟩ hP hD hS dX5_setSign_29
  · refine lv_iconst (v := (-1)) hx hb dX5_setSign_8 (by decide) ?_
    exact ol_iretE hx hb hr hlocks ⟨congrArg (fun z => some (Value.int z)) (by simp [mSgN, mSgV, mSgR, zB, c_5]), (by simp [mSgN, mSgV, mSgR, zB, c_5])⟩ hP hD hS dX5_setSign_9
set_option maxHeartbeats 4000000 in
set_option maxRecDepth 100000 in
theorem mm_setShift (l : Launch) (G : oG) (ad : Nat → Nat) (st : Nat) (iA : Int32) (iL : Int32) (iT : Int32) (iC : Int32) (iR : Int32) (r : Nat → Int32) (pr : Nat → Int32) (ar : Nat → Int32) (br : Nat → Int32) (f : Nat → UInt32) (pf : Nat → UInt32) (af : Nat → UInt32) (bf : Nat → UInt32) (tx : Nat → Int32) (q : Int32) (k : Int32) (Rw Cl : Nat) (hg : mG r Rw Cl) (hst : st ≤ 4) (sz : Nat) : Met l yX5_setShift (ws_ yX5_setShift cX5_setShift 5 (some .int)) ({ frames := 2, cells := 0, slots := 0, locals := 43 }) (oPc G [.ref (ad 0), .int q, .int k] (oPE G (mW G ad (nI st) iA iL iT iC iR r pr ar br f pf af bf tx) sz (fun _ => True))) (oE G (fun v_ W_ => v_ = some (.int (mSfV r (Rw * Cl) q k)) ∧ W_ = mW G ad (nI (if mSfN r (Rw * Cl) q k = true then st else (mRecN st))) iA iL iT iC iR (if mSfN r (Rw * Cl) q k = true then r else mSfR r q k) (if mSfN r (Rw * Cl) q k = true then pr else mRecP pr (mCp r br 592) st) ar (if mSfN r (Rw * Cl) q k = true then br else mCp r br 592) f (if mSfN r (Rw * Cl) q k = true then pf else mRecF pf (mCf f bf 7) st) af (if mSfN r (Rw * Cl) q k = true then bf else mCf f bf 7) tx) (mW G ad (nI st) iA iL iT iC iR r pr ar br f pf af bf tx) sz) 0 0 (va_A (mW G ad (nI st) iA iL iT iC iR r pr ar br f pf af bf tx) sz) := by
  refine Met.ofW (cc := cX5_setShift) (maxL := 5) (ret := (some .int)) (by decide) rfl ?_
  intro p e s m args below meth c s₁ B hml hv
  obtain ⟨rfl, ⟨hsz, hP, hD0, hX⟩, hE⟩ := hv
  have hx := B.exec
  have hb := B.bytes
  have hr := B.returns
  have hts := atoms_spec (ws := ws_ yX5_setShift cX5_setShift 5 (some .int)) B.pre
  have hts : ∀ w ∈ lw_all, w.before _ s = true := fun w h => hts w (List.mem_cons_of_mem _ h)
  have hown : s.vm.findClass RX5 = some m.cls := findClass_of_methodNamed B.named
  have hlocks := B.notSynchronized
  subst hsz
  have hD := hD0.self (sz := s.heap.size)
  have hA : ∀ q : Nat, s.heap.size ≤ q → va_A (mW G ad (nI st) iA iL iT iC iR r pr ar br f pf af bf tx) s.heap.size q := fun q h => Or.inr h
  have hl := lv_entry ([.ref (ad 0), .int q, .int k]) (n := 5) (Nat.le_of_ble_eq_true rfl)
  rw [lg_entry_eq]
  generalize (lg_sl ([.ref (ad 0), .int q, .int k]) ++ List.replicate (5 - (lg_sl ([.ref (ad 0), .int q, .int k])).length) Slot.unset).toArray = ls at hl ⊢
  replace hl : lv_has ls 5 [(0, .ref (ad 0)), (1, .int q), (2, .int k)] := hl
  refine ol_start (A := va_A (mW G ad (nI st) iA iL iT iC iR r pr ar br f pf af bf tx) s.heap.size) (fun H locs hH hS => ?_)
  rw [← hH] at hP
  clear hH
  have hgn := mG_n hg
  have hg' := hg
  obtain ⟨hg0, hg1, hg2, hg3, hg4, hg5⟩ := hg'
  refine lv_aload_n hx hb dX5_setShift_0 rfl (lv_at hl 0 rfl) ?_
  refine lv_iload_n hx hb dX5_setShift_1 rfl (lv_at hl 1 rfl) ?_
  refine ol_cR (st1 := [.int (zB (noT q))]) (va_runV (As := [.int q]) (rest := []) ⟨hx, hb, hml, hown, hts⟩ (mr_noTypist l G ad (nI st) iA iL iT iC iR r pr ar br f pf af bf tx q ) (cwV 1 hts (lw_V q1241 q1243 qs30 q73 q1244) rfl rfl rfl (by decide +kernel) ⟨Nat.le_of_ble_eq_true rfl, Nat.le_of_ble_eq_true rfl⟩) (oPc.preV hE (hE.recv (ci := 12) (hP 0 _ rfl) rfl) hP) rfl rfl hl.1 rfl (lv_room (Nat.le_of_ble_eq_true rfl)) dX5_setShift_2 ⟨Nat.le_of_ble_eq_true rfl, Nat.le_of_ble_eq_true rfl⟩) rfl ?_
  refine ol_if_neB hx hb (noT q) (tgt := 16) dX5_setShift_5 (by decide) (fun c_5 => ?_) (fun c_5 => ?_)
  · refine lv_iconst (v := (-1)) hx hb dX5_setShift_16 (by decide) ?_
    exact ol_iretE hx hb hr hlocks ⟨congrArg (fun z => some (Value.int z)) (by simp [mSfN, mSfV, mSfR, zB, c_5]), (by simp [mSfN, mSfV, mSfR, zB, c_5])⟩ hP hD hS dX5_setShift_17
  · obtain ⟨hq2, hq1⟩ := noT_f (c_5)
    refine lv_aload_n hx hb dX5_setShift_8 rfl (lv_at hl 0 rfl) ?_
    refine lv_iload_n hx hb dX5_setShift_9 rfl (lv_at hl 2 rfl) ?_
    refine ol_cR (st1 := [.int (zB (noK k (Rw * Cl)))]) (va_runV (As := [.int k]) (rest := []) ⟨hx, hb, hml, hown, hts⟩ (mr_noKey l G ad (nI st) iA iL iT iC iR r pr ar br f pf af bf tx k Rw Cl hg) (cwV 1 hts (lw_V q1229 q1231 qs28 q73 q1232) rfl rfl rfl (by decide +kernel) ⟨Nat.le_of_ble_eq_true rfl, Nat.le_of_ble_eq_true rfl⟩) (oPc.preV hE (hE.recv (ci := 12) (hP 0 _ rfl) rfl) hP) rfl rfl hl.1 rfl (lv_room (Nat.le_of_ble_eq_true rfl)) dX5_setShift_10 ⟨Nat.le_of_ble_eq_true rfl, Nat.le_of_ble_eq_true rfl⟩) rfl ?_
    refine ol_if_eqB hx hb (noK k (Rw * Cl)) (tgt := 18) dX5_setShift_13 (by decide) (fun c_13 => ?_) (fun c_13 => ?_)
    · obtain ⟨hk1, hk2⟩ := noK_f (c_13) (by omega) (by omega)
      refine lv_aload_n hx hb dX5_setShift_18 rfl (lv_at hl 0 rfl) ?_
      refine lv_iload_n hx hb dX5_setShift_19 rfl (lv_at hl 2 rfl) ?_
      refine ol_cR (st1 := [.int (mSh r k)]) (va_runV (As := [.int k]) (rest := []) ⟨hx, hb, hml, hown, hts⟩ (mr_shiftOf l G ad (nI st) iA iL iT iC iR r pr ar br f pf af bf tx k ) (cwV 1 hts (lw_V q1233 q1235 qs29 q73 q1236) rfl rfl rfl (by decide +kernel) ⟨Nat.le_of_ble_eq_true rfl, Nat.le_of_ble_eq_true rfl⟩) (oPc.preV hE (hE.recv (ci := 12) (hP 0 _ rfl) rfl) hP) rfl rfl hl.1 rfl (lv_room (Nat.le_of_ble_eq_true rfl)) dX5_setShift_20 ⟨Nat.le_of_ble_eq_true rfl, Nat.le_of_ble_eq_true rfl⟩) rfl ?_
      refine lv_istore_n (lv' := [(3, .int (mSh r k)), (0, .ref (ad 0)), (1, .int q), (2, .int k)]) hx hb dX5_setShift_23 rfl hl (by decide) rfl (fun ls hl => ?_)
      refine lv_iload_n hx hb dX5_setShift_24 rfl (lv_at hl 0 rfl) ?_
      refine lv_iconst (v := 1) hx hb dX5_setShift_25 (by decide) ?_
      refine lv_iload_n hx hb dX5_setShift_26 rfl (lv_at hl 2 rfl) ?_
      refine ol_top (y := nI (cN q)) hq1 ?_
      refine ol_isub hx hb 1 (cN q) (by omega) dX5_setShift_27 ?_
      refine lv_icmp_ne (tgt := 34) hx hb dX5_setShift_28 (by decide) (fun c_28 => ?_) (fun c_28 => ?_)
      · refine lv_iload_n hx hb dX5_setShift_34 rfl (lv_at hl 0 rfl) ?_
        refine lv_iload_n hx hb dX5_setShift_35 rfl (lv_at hl 2 rfl) ?_
        refine lv_icmp_ne (tgt := 42) hx hb dX5_setShift_36 (by decide) (fun c_36 => ?_) (fun c_36 => ?_)
        · refine lv_aload_n hx hb dX5_setShift_42 rfl (lv_at hl 1 rfl) ?_
          refine ol_cM (st1 := []) (va_runV (As := []) (rest := []) ⟨hx, hb, hml, hown, hts⟩ (mm_begin l G ad st iA iL iT iC iR r pr ar br f pf af bf tx (by omega) H.size) (cwV 0 hts (lw_V q1194 q1196 qs22 q73 q1197) rfl rfl rfl (by decide +kernel) ⟨Nat.le_of_ble_eq_true rfl, Nat.le_of_ble_eq_true rfl⟩) (oPc.preV hE (hE.recv (ci := 12) (hP 0 _ rfl) rfl) ⟨rfl, hP, oD_weak hD (fun _ _ => trivial), trivial⟩) rfl rfl hl.1 rfl (lv_room (Nat.le_of_ble_eq_true rfl)) dX5_setShift_43 ⟨Nat.le_of_ble_eq_true rfl, Nat.le_of_ble_eq_true rfl⟩) hP hD hS hA rfl (fun H locs hP hD hS => ?_)
          refine lv_aload_n hx hb dX5_setShift_46 rfl (lv_at hl 1 rfl) ?_
          refine va_get (D := G.1) (ci := 12) (v := .ref (ad 1)) (C := RX5) (T := TX5) (N := 15) hx hb hts in_X5 hown hE.1 hP 0 rfl rfl 0 (by decide) (hts _ q1135) (fun _ h9 => h9) rfl dX5_setShift_47 ?_
          refine lv_iconst (v := 5) hx hb dX5_setShift_50 (by decide) ?_
          refine lv_iload_n hx hb dX5_setShift_51 rfl (lv_at hl 2 rfl) ?_
          refine ol_top (y := nI (cN q)) hq1 ?_
          refine ol_iadd hx hb 5 (cN q) dX5_setShift_52 ?_
          refine ol_iald hx hb hE.1 hP 1 0 rfl rfl (5 + (cN q)) (by omega) (by decide) dX5_setShift_53 ?_
          refine lv_istore (lv' := [(4, .int (r (5 + (cN q)))), (3, .int (mSh r k)), (0, .ref (ad 0)), (1, .int q), (2, .int k)]) hx hb dX5_setShift_54 hl (by decide) rfl (fun ls hl => ?_)
          refine lv_aload_n hx hb dX5_setShift_56 rfl (lv_at hl 2 rfl) ?_
          refine va_get (D := G.1) (ci := 12) (v := .ref (ad 1)) (C := RX5) (T := TX5) (N := 15) hx hb hts in_X5 hown hE.1 hP 0 rfl rfl 0 (by decide) (hts _ q1135) (fun _ h9 => h9) rfl dX5_setShift_57 ?_
          refine lv_iconst (v := 5) hx hb dX5_setShift_60 (by decide) ?_
          refine lv_iload_n hx hb dX5_setShift_61 rfl (lv_at hl 3 rfl) ?_
          refine ol_top (y := nI (cN q)) hq1 ?_
          refine ol_iadd hx hb 5 (cN q) dX5_setShift_62 ?_
          refine lv_iload_n hx hb dX5_setShift_63 rfl (lv_at hl 4 rfl) ?_
          refine ol_iast hx hb hE.1 hP hD hS 1 0 rfl rfl (5 + (cN q)) (by omega) (by decide) dX5_setShift_64 (fun H locs hP hD hS => ?_)
          replace hP : va_P G.1 cl0 (mW G ad (nI (mRecN st)) iA iL iT iC iR (upd r (5 + (cN q)) k) (mRecP pr (mCp r br 592) st) ar (mCp r br 592) f (mRecF pf (mCf f bf 7) st) af (mCf f bf 7) tx) H := hP
          replace hD : va_D (va_A (mW G ad (nI st) iA iL iT iC iR r pr ar br f pf af bf tx) s.heap.size) (mW G ad (nI (mRecN st)) iA iL iT iC iR (upd r (5 + (cN q)) k) (mRecP pr (mCp r br 592) st) ar (mCp r br 592) f (mRecF pf (mCf f bf 7) st) af (mCf f bf 7) tx) := hD
          refine lv_aload_n hx hb dX5_setShift_65 rfl (lv_at hl 2 rfl) ?_
          refine va_get (D := G.1) (ci := 12) (v := .ref (ad 1)) (C := RX5) (T := TX5) (N := 15) hx hb hts in_X5 hown hE.1 hP 0 rfl rfl 0 (by decide) (hts _ q1135) (fun _ h9 => h9) rfl dX5_setShift_66 ?_
          refine lv_sipush (v := 260) hx hb dX5_setShift_69 (by decide) ?_
          refine lv_iload_n hx hb dX5_setShift_72 rfl (lv_at hl 4 rfl) ?_
          refine ol_top (y := nI (cN k)) hk2 ?_
          refine ol_iadd hx hb 260 (cN k) dX5_setShift_73 ?_
          refine lv_bipush (v := 46) hx hb dX5_setShift_74 (by decide) ?_
          refine ol_iast hx hb hE.1 hP hD hS 1 0 rfl rfl (260 + (cN k)) (by omega) (by decide) dX5_setShift_76 (fun H locs hP hD hS => ?_)
          replace hP : va_P G.1 cl0 (mW G ad (nI (mRecN st)) iA iL iT iC iR (upd (upd r (5 + (cN q)) k) (260 + (cN k)) 46) (mRecP pr (mCp r br 592) st) ar (mCp r br 592) f (mRecF pf (mCf f bf 7) st) af (mCf f bf 7) tx) H := hP
          replace hD : va_D (va_A (mW G ad (nI st) iA iL iT iC iR r pr ar br f pf af bf tx) s.heap.size) (mW G ad (nI (mRecN st)) iA iL iT iC iR (upd (upd r (5 + (cN q)) k) (260 + (cN k)) 46) (mRecP pr (mCp r br 592) st) ar (mCp r br 592) f (mRecF pf (mCf f bf 7) st) af (mCf f bf 7) tx) := hD
          refine lv_iload hx hb dX5_setShift_77 (lv_at hl 0 rfl) ?_
          refine lv_if_ge (tgt := 86) hx hb dX5_setShift_79 (by decide) (fun c_79 => ?_) (fun c_79 => ?_)
          · refine lv_iload hx hb dX5_setShift_86 (lv_at hl 0 rfl) ?_
            exact ol_iretE hx hb hr hlocks ⟨congrArg (fun z => some (Value.int z)) (by simp [mSfN, mSfV, mSfR, zB, c_5, c_13, c_28, c_36, c_79, Int32.not_lt.mpr c_79]), (by simp [mSfN, mSfV, mSfR, zB, c_5, c_13, c_28, c_36, c_79, Int32.not_lt.mpr c_79])⟩ hP hD hS dX5_setShift_88
          · refine lv_iload_n hx hb dX5_setShift_82 rfl (lv_at hl 4 rfl) ?_
            refine lv_goto (tgt := 88) hx hb dX5_setShift_83 (by decide) ?_
            exact ol_iretE hx hb hr hlocks ⟨congrArg (fun z => some (Value.int z)) (by simp [mSfN, mSfV, mSfR, zB, c_5, c_13, c_28, c_36, c_79, Int32.not_le.mp c_79]), (by simp [mSfN, mSfV, mSfR, zB, c_5, c_13, c_28, c_36, c_79, Int32.not_le.mp c_79])⟩ hP hD hS dX5_setShift_88
        · refine lv_bipush (v := (-5)) hx hb dX5_setShift_39 (by decide) ?_
          exact ol_iretE hx hb hr hlocks ⟨congrArg (fun z => some (Value.int z)) (by simp [mSfN, mSfV, mSfR, zB, c_5, c_13, c_28, c_36, (show ¬ q = nI (1 - cN q) from c_36 ▸ c_28)]), (by simp [mSfN, mSfV, mSfR, zB, c_5, c_13, c_28, c_36, (show ¬ q = nI (1 - cN q) from c_36 ▸ c_28)])⟩ hP hD hS dX5_setShift_41
      · refine lv_bipush (v := (-4)) hx hb dX5_setShift_31 (by decide) ?_
        exact ol_iretE hx hb hr hlocks ⟨congrArg (fun z => some (Value.int z)) (by simp [mSfN, mSfV, mSfR, zB, c_5, c_13, c_28]), (by simp [mSfN, mSfV, mSfR, zB, c_5, c_13, c_28])⟩ hP hD hS dX5_setShift_33
    · refine lv_iconst (v := (-1)) hx hb dX5_setShift_16 (by decide) ?_
      exact ol_iretE hx hb hr hlocks ⟨congrArg (fun z => some (Value.int z)) (by simp [mSfN, mSfV, mSfR, zB, c_5, c_13]), (by simp [mSfN, mSfV, mSfR, zB, c_5, c_13])⟩ hP hD hS dX5_setShift_17
set_option maxHeartbeats 4000000 in
set_option maxRecDepth 100000 in
theorem mm_borrow (l : Launch) (G : oG) (ad : Nat → Nat) (st : Nat) (iA : Int32) (iL : Int32) (iT : Int32) (iC : Int32) (iR : Int32) (r : Nat → Int32) (pr : Nat → Int32) (ar : Nat → Int32) (br : Nat → Int32) (f : Nat → UInt32) (pf : Nat → UInt32) (af : Nat → UInt32) (bf : Nat → UInt32) (tx : Nat → Int32) (q : Int32) (b : Bool)  (hst : st ≤ 4) (sz : Nat) : Met l yX5_borrow (ws_ yX5_borrow cX5_borrow 3 (some .int)) ({ frames := 2, cells := 0, slots := 0, locals := 43 }) (oPc G [.ref (ad 0), .int q, .int (zB b)] (oPE G (mW G ad (nI st) iA iL iT iC iR r pr ar br f pf af bf tx) sz (fun _ => True))) (oE G (fun v_ W_ => v_ = some (.int (mBoV r q b)) ∧ W_ = mW G ad (nI (if mBoN r q b = true then st else (mRecN st))) iA iL iT iC iR (if mBoN r q b = true then r else mBoR r q b) (if mBoN r q b = true then pr else mRecP pr (mCp r br 592) st) ar (if mBoN r q b = true then br else mCp r br 592) f (if mBoN r q b = true then pf else mRecF pf (mCf f bf 7) st) af (if mBoN r q b = true then bf else mCf f bf 7) tx) (mW G ad (nI st) iA iL iT iC iR r pr ar br f pf af bf tx) sz) 0 0 (va_A (mW G ad (nI st) iA iL iT iC iR r pr ar br f pf af bf tx) sz) := by
  refine Met.ofW (cc := cX5_borrow) (maxL := 3) (ret := (some .int)) (by decide) rfl ?_
  intro p e s m args below meth c s₁ B hml hv
  obtain ⟨rfl, ⟨hsz, hP, hD0, hX⟩, hE⟩ := hv
  have hx := B.exec
  have hb := B.bytes
  have hr := B.returns
  have hts := atoms_spec (ws := ws_ yX5_borrow cX5_borrow 3 (some .int)) B.pre
  have hts : ∀ w ∈ lw_all, w.before _ s = true := fun w h => hts w (List.mem_cons_of_mem _ h)
  have hown : s.vm.findClass RX5 = some m.cls := findClass_of_methodNamed B.named
  have hlocks := B.notSynchronized
  subst hsz
  have hD := hD0.self (sz := s.heap.size)
  have hA : ∀ q : Nat, s.heap.size ≤ q → va_A (mW G ad (nI st) iA iL iT iC iR r pr ar br f pf af bf tx) s.heap.size q := fun q h => Or.inr h
  have hl := lv_entry ([.ref (ad 0), .int q, .int (zB b)]) (n := 3) (Nat.le_of_ble_eq_true rfl)
  rw [lg_entry_eq]
  generalize (lg_sl ([.ref (ad 0), .int q, .int (zB b)]) ++ List.replicate (3 - (lg_sl ([.ref (ad 0), .int q, .int (zB b)])).length) Slot.unset).toArray = ls at hl ⊢
  replace hl : lv_has ls 3 [(0, .ref (ad 0)), (1, .int q), (2, .int (zB b))] := hl
  refine ol_start (A := va_A (mW G ad (nI st) iA iL iT iC iR r pr ar br f pf af bf tx) s.heap.size) (fun H locs hH hS => ?_)
  rw [← hH] at hP
  clear hH
  refine lv_aload_n hx hb dX5_borrow_0 rfl (lv_at hl 0 rfl) ?_
  refine lv_iload_n hx hb dX5_borrow_1 rfl (lv_at hl 1 rfl) ?_
  refine ol_cR (st1 := [.int (zB (noT q))]) (va_runV (As := [.int q]) (rest := []) ⟨hx, hb, hml, hown, hts⟩ (mr_noTypist l G ad (nI st) iA iL iT iC iR r pr ar br f pf af bf tx q ) (cwV 1 hts (lw_V q1241 q1243 qs30 q73 q1244) rfl rfl rfl (by decide +kernel) ⟨Nat.le_of_ble_eq_true rfl, Nat.le_of_ble_eq_true rfl⟩) (oPc.preV hE (hE.recv (ci := 12) (hP 0 _ rfl) rfl) hP) rfl rfl hl.1 rfl (lv_room (Nat.le_of_ble_eq_true rfl)) dX5_borrow_2 ⟨Nat.le_of_ble_eq_true rfl, Nat.le_of_ble_eq_true rfl⟩) rfl ?_
  refine ol_if_eqB hx hb (noT q) (tgt := 10) dX5_borrow_5 (by decide) (fun c_5 => ?_) (fun c_5 => ?_)
  · obtain ⟨hq2, hq1⟩ := noT_f (c_5)
    refine lv_aload_n hx hb dX5_borrow_10 rfl (lv_at hl 0 rfl) ?_
    refine va_get (D := G.1) (ci := 12) (v := .ref (ad 1)) (C := RX5) (T := TX5) (N := 15) hx hb hts in_X5 hown hE.1 hP 0 rfl rfl 0 (by decide) (hts _ q1135) (fun _ h9 => h9) rfl dX5_borrow_11 ?_
    refine lv_bipush (v := 7) hx hb dX5_borrow_14 (by decide) ?_
    refine lv_iload_n hx hb dX5_borrow_16 rfl (lv_at hl 1 rfl) ?_
    refine ol_top (y := nI (cN q)) hq1 ?_
    refine ol_iadd hx hb 7 (cN q) dX5_borrow_17 ?_
    refine ol_iald hx hb hE.1 hP 1 0 rfl rfl (7 + (cN q)) (by omega) (by decide) dX5_borrow_18 ?_
    refine lv_iconst (v := 1) hx hb dX5_borrow_19 (by decide) ?_
    refine lv_icmp_ne (tgt := 27) hx hb dX5_borrow_20 (by decide) (fun c_20 => ?_) (fun c_20 => ?_)
    · refine lv_iconst (v := 0) hx hb dX5_borrow_27 (by decide) ?_
      refine lv_iload_n hx hb dX5_borrow_28 rfl (lv_at hl 2 rfl) ?_
      refine ol_icmp_neBB hx hb false b (tgt := 35) dX5_borrow_29 (by decide) (fun c_29 => ?_) (fun c_29 => ?_)
      · refine lv_aload_n hx hb dX5_borrow_35 rfl (lv_at hl 0 rfl) ?_
        refine ol_cM (st1 := []) (va_runV (As := []) (rest := []) ⟨hx, hb, hml, hown, hts⟩ (mm_begin l G ad st iA iL iT iC iR r pr ar br f pf af bf tx (by omega) H.size) (cwV 0 hts (lw_V q1194 q1196 qs22 q73 q1197) rfl rfl rfl (by decide +kernel) ⟨Nat.le_of_ble_eq_true rfl, Nat.le_of_ble_eq_true rfl⟩) (oPc.preV hE (hE.recv (ci := 12) (hP 0 _ rfl) rfl) ⟨rfl, hP, oD_weak hD (fun _ _ => trivial), trivial⟩) rfl rfl hl.1 rfl (lv_room (Nat.le_of_ble_eq_true rfl)) dX5_borrow_36 ⟨Nat.le_of_ble_eq_true rfl, Nat.le_of_ble_eq_true rfl⟩) hP hD hS hA rfl (fun H locs hP hD hS => ?_)
        refine lv_aload_n hx hb dX5_borrow_39 rfl (lv_at hl 0 rfl) ?_
        refine va_get (D := G.1) (ci := 12) (v := .ref (ad 1)) (C := RX5) (T := TX5) (N := 15) hx hb hts in_X5 hown hE.1 hP 0 rfl rfl 0 (by decide) (hts _ q1135) (fun _ h9 => h9) rfl dX5_borrow_40 ?_
        refine lv_bipush (v := 7) hx hb dX5_borrow_43 (by decide) ?_
        refine lv_iload_n hx hb dX5_borrow_45 rfl (lv_at hl 1 rfl) ?_
        refine ol_top (y := nI (cN q)) hq1 ?_
        refine ol_iadd hx hb 7 (cN q) dX5_borrow_46 ?_
        refine lv_iload_n hx hb dX5_borrow_47 rfl (lv_at hl 2 rfl) ?_
        refine ol_if_eqB hx hb b (tgt := 55) dX5_borrow_48 (by decide) (fun c_48 => ?_) (fun c_48 => ?_)
        · exact absurd c_48.symm c_29
        · refine lv_iconst (v := 1) hx hb dX5_borrow_51 (by decide) ?_
          refine lv_goto (tgt := 56) hx hb dX5_borrow_52 (by decide) ?_
          refine ol_iast hx hb hE.1 hP hD hS 1 0 rfl rfl (7 + (cN q)) (by omega) (by decide) dX5_borrow_56 (fun H locs hP hD hS => ?_)
          replace hP : va_P G.1 cl0 (mW G ad (nI (mRecN st)) iA iL iT iC iR (upd r (7 + (cN q)) 1) (mRecP pr (mCp r br 592) st) ar (mCp r br 592) f (mRecF pf (mCf f bf 7) st) af (mCf f bf 7) tx) H := hP
          replace hD : va_D (va_A (mW G ad (nI st) iA iL iT iC iR r pr ar br f pf af bf tx) s.heap.size) (mW G ad (nI (mRecN st)) iA iL iT iC iR (upd r (7 + (cN q)) 1) (mRecP pr (mCp r br 592) st) ar (mCp r br 592) f (mRecF pf (mCf f bf 7) st) af (mCf f bf 7) tx) := hD
          refine lv_aload_n hx hb dX5_borrow_57 rfl (lv_at hl 0 rfl) ?_
          refine va_get (D := G.1) (ci := 12) (v := .ref (ad 1)) (C := RX5) (T := TX5) (N := 15) hx hb hts in_X5 hown hE.1 hP 0 rfl rfl 0 (by decide) (hts _ q1135) (fun _ h9 => h9) rfl dX5_borrow_58 ?_
          refine lv_bipush (v := 7) hx hb dX5_borrow_61 (by decide) ?_
          refine ol_iald hx hb hE.1 hP 1 0 rfl rfl 7 (by decide) (by decide) dX5_borrow_63 ?_
          refine lv_aload_n hx hb dX5_borrow_64 rfl (lv_at hl 0 rfl) ?_
          refine va_get (D := G.1) (ci := 12) (v := .ref (ad 1)) (C := RX5) (T := TX5) (N := 15) hx hb hts in_X5 hown hE.1 hP 0 rfl rfl 0 (by decide) (hts _ q1135) (fun _ h9 => h9) rfl dX5_borrow_65 ?_
          refine lv_bipush (v := 8) hx hb dX5_borrow_68 (by decide) ?_
          refine ol_iald hx hb hE.1 hP 1 0 rfl rfl 8 (by decide) (by decide) dX5_borrow_70 ?_
          refine lv_iadd hx hb dX5_borrow_71 ?_
          exact ol_iretE hx hb hr hlocks ⟨congrArg (fun z => some (Value.int z)) (by simp [mBoN, mBoV, mBoR, zB, c_5, c_20, c_29, c_48]), (by simp [mBoN, mBoV, mBoR, zB, c_5, c_20, c_29, c_48])⟩ hP hD hS dX5_borrow_72
      · refine lv_bipush (v := (-5)) hx hb dX5_borrow_32 (by decide) ?_
        exact ol_iretE hx hb hr hlocks ⟨congrArg (fun z => some (Value.int z)) (by simp [mBoN, mBoV, mBoR, zB, c_5, c_20, c_29]), (by simp [mBoN, mBoV, mBoR, zB, c_5, c_20, c_29])⟩ hP hD hS dX5_borrow_34
    · refine lv_iconst (v := 1) hx hb dX5_borrow_23 (by decide) ?_
      refine lv_goto (tgt := 28) hx hb dX5_borrow_24 (by decide) ?_
      refine lv_iload_n hx hb dX5_borrow_28 rfl (lv_at hl 2 rfl) ?_
      refine ol_icmp_neBB hx hb true b (tgt := 35) dX5_borrow_29 (by decide) (fun c_29 => ?_) (fun c_29 => ?_)
      · refine lv_aload_n hx hb dX5_borrow_35 rfl (lv_at hl 0 rfl) ?_
        refine ol_cM (st1 := []) (va_runV (As := []) (rest := []) ⟨hx, hb, hml, hown, hts⟩ (mm_begin l G ad st iA iL iT iC iR r pr ar br f pf af bf tx (by omega) H.size) (cwV 0 hts (lw_V q1194 q1196 qs22 q73 q1197) rfl rfl rfl (by decide +kernel) ⟨Nat.le_of_ble_eq_true rfl, Nat.le_of_ble_eq_true rfl⟩) (oPc.preV hE (hE.recv (ci := 12) (hP 0 _ rfl) rfl) ⟨rfl, hP, oD_weak hD (fun _ _ => trivial), trivial⟩) rfl rfl hl.1 rfl (lv_room (Nat.le_of_ble_eq_true rfl)) dX5_borrow_36 ⟨Nat.le_of_ble_eq_true rfl, Nat.le_of_ble_eq_true rfl⟩) hP hD hS hA rfl (fun H locs hP hD hS => ?_)
        refine lv_aload_n hx hb dX5_borrow_39 rfl (lv_at hl 0 rfl) ?_
        refine va_get (D := G.1) (ci := 12) (v := .ref (ad 1)) (C := RX5) (T := TX5) (N := 15) hx hb hts in_X5 hown hE.1 hP 0 rfl rfl 0 (by decide) (hts _ q1135) (fun _ h9 => h9) rfl dX5_borrow_40 ?_
        refine lv_bipush (v := 7) hx hb dX5_borrow_43 (by decide) ?_
        refine lv_iload_n hx hb dX5_borrow_45 rfl (lv_at hl 1 rfl) ?_
        refine ol_top (y := nI (cN q)) hq1 ?_
        refine ol_iadd hx hb 7 (cN q) dX5_borrow_46 ?_
        refine lv_iload_n hx hb dX5_borrow_47 rfl (lv_at hl 2 rfl) ?_
        refine ol_if_eqB hx hb b (tgt := 55) dX5_borrow_48 (by decide) (fun c_48 => ?_) (fun c_48 => ?_)
        · refine lv_iconst (v := 0) hx hb dX5_borrow_55 (by decide) ?_
          refine ol_iast hx hb hE.1 hP hD hS 1 0 rfl rfl (7 + (cN q)) (by omega) (by decide) dX5_borrow_56 (fun H locs hP hD hS => ?_)
          replace hP : va_P G.1 cl0 (mW G ad (nI (mRecN st)) iA iL iT iC iR (upd r (7 + (cN q)) 0) (mRecP pr (mCp r br 592) st) ar (mCp r br 592) f (mRecF pf (mCf f bf 7) st) af (mCf f bf 7) tx) H := hP
          replace hD : va_D (va_A (mW G ad (nI st) iA iL iT iC iR r pr ar br f pf af bf tx) s.heap.size) (mW G ad (nI (mRecN st)) iA iL iT iC iR (upd r (7 + (cN q)) 0) (mRecP pr (mCp r br 592) st) ar (mCp r br 592) f (mRecF pf (mCf f bf 7) st) af (mCf f bf 7) tx) := hD
          refine lv_aload_n hx hb dX5_borrow_57 rfl (lv_at hl 0 rfl) ?_
          refine va_get (D := G.1) (ci := 12) (v := .ref (ad 1)) (C := RX5) (T := TX5) (N := 15) hx hb hts in_X5 hown hE.1 hP 0 rfl rfl 0 (by decide) (hts _ q1135) (fun _ h9 => h9) rfl dX5_borrow_58 ?_
          refine lv_bipush (v := 7) hx hb dX5_borrow_61 (by decide) ?_
          refine ol_iald hx hb hE.1 hP 1 0 rfl rfl 7 (by decide) (by decide) dX5_borrow_63 ?_
          refine lv_aload_n hx hb dX5_borrow_64 rfl (lv_at hl 0 rfl) ?_
          refine va_get (D := G.1) (ci := 12) (v := .ref (ad 1)) (C := RX5) (T := TX5) (N := 15) hx hb hts in_X5 hown hE.1 hP 0 rfl rfl 0 (by decide) (hts _ q1135) (fun _ h9 => h9) rfl dX5_borrow_65 ?_
          refine lv_bipush (v := 8) hx hb dX5_borrow_68 (by decide) ?_
          refine ol_iald hx hb hE.1 hP 1 0 rfl rfl 8 (by decide) (by decide) dX5_borrow_70 ?_
          refine lv_iadd hx hb dX5_borrow_71 ?_
          exact ol_iretE hx hb hr hlocks ⟨congrArg (fun z => some (Value.int z)) (by simp [mBoN, mBoV, mBoR, zB, c_5, c_20, c_29, c_48]), (by simp [mBoN, mBoV, mBoR, zB, c_5, c_20, c_29, c_48])⟩ hP hD hS dX5_borrow_72
        · exact absurd c_48.symm c_29
      · refine lv_bipush (v := (-5)) hx hb dX5_borrow_32 (by decide) ?_
        exact ol_iretE hx hb hr hlocks ⟨congrArg (fun z => some (Value.int z)) (by simp [mBoN, mBoV, mBoR, zB, c_5, c_20, c_29]), (by simp [mBoN, mBoV, mBoR, zB, c_5, c_20, c_29])⟩ hP hD hS dX5_borrow_34
  · refine lv_iconst (v := (-1)) hx hb dX5_borrow_8 (by decide) ?_
    exact ol_iretE hx hb hr hlocks ⟨congrArg (fun z => some (Value.int z)) (by simp [mBoN, mBoV, mBoR, zB, c_5]), (by simp [mBoN, mBoV, mBoR, zB, c_5])⟩ hP hD hS dX5_borrow_9
set_option maxHeartbeats 4000000 in
set_option maxRecDepth 100000 in
theorem mm_key (l : Launch) (G : oG) (ad : Nat → Nat) (iS : Int32) (iA : Int32) (iL : Int32) (iT : Int32) (iC : Int32) (iR : Int32) (r : Nat → Int32) (pr : Nat → Int32) (ar : Nat → Int32) (br : Nat → Int32) (f : Nat → UInt32) (pf : Nat → UInt32) (af : Nat → UInt32) (bf : Nat → UInt32) (tx : Nat → Int32) (k : Int32) (x : Int32) (Rw Cl : Nat) (hg : mG r Rw Cl) (sz : Nat) : Met l yX5_key (ws_ yX5_key cX5_key 3 (some .int)) ({ frames := 3, cells := 0, slots := 0, locals := 70 }) (oPc G [.ref (ad 0), .int k, .int x] (oPE G (mW G ad iS iA iL iT iC iR r pr ar br f pf af bf tx) sz (fun _ => True))) (oE G (fun v_ W_ => v_ = some (.int (mKeyV r Rw Cl k x)) ∧ W_ = mW G ad iS iA iL iT (if mKeyD (Rw * Cl) k x = true then nI (mDrv r Rw Cl (cN k / Cl)).2 else iC) (if mKeyD (Rw * Cl) k x = true then nI (mDrv r Rw Cl (cN k / Cl)).1 else iR) r pr ar br f pf af bf tx) (mW G ad iS iA iL iT iC iR r pr ar br f pf af bf tx) sz) 0 0 (va_A (mW G ad iS iA iL iT iC iR r pr ar br f pf af bf tx) sz) := by
  refine Met.ofW (cc := cX5_key) (maxL := 3) (ret := (some .int)) (by decide) rfl ?_
  intro p e s m args below meth c s₁ B hml hv
  obtain ⟨rfl, ⟨hsz, hP, hD0, hX⟩, hE⟩ := hv
  have hx := B.exec
  have hb := B.bytes
  have hr := B.returns
  have hts := atoms_spec (ws := ws_ yX5_key cX5_key 3 (some .int)) B.pre
  have hts : ∀ w ∈ lw_all, w.before _ s = true := fun w h => hts w (List.mem_cons_of_mem _ h)
  have hown : s.vm.findClass RX5 = some m.cls := findClass_of_methodNamed B.named
  have hlocks := B.notSynchronized
  subst hsz
  have hD := hD0.self (sz := s.heap.size)
  have hA : ∀ q : Nat, s.heap.size ≤ q → va_A (mW G ad iS iA iL iT iC iR r pr ar br f pf af bf tx) s.heap.size q := fun q h => Or.inr h
  have hl := lv_entry ([.ref (ad 0), .int k, .int x]) (n := 3) (Nat.le_of_ble_eq_true rfl)
  rw [lg_entry_eq]
  generalize (lg_sl ([.ref (ad 0), .int k, .int x]) ++ List.replicate (3 - (lg_sl ([.ref (ad 0), .int k, .int x])).length) Slot.unset).toArray = ls at hl ⊢
  replace hl : lv_has ls 3 [(0, .ref (ad 0)), (1, .int k), (2, .int x)] := hl
  refine ol_start (A := va_A (mW G ad iS iA iL iT iC iR r pr ar br f pf af bf tx) s.heap.size) (fun H locs hH hS => ?_)
  rw [← hH] at hP
  clear hH
  have hgn := mG_n hg
  have hg' := hg
  obtain ⟨hg0, hg1, hg2, hg3, hg4, hg5⟩ := hg'
  refine lv_aload_n hx hb dX5_key_0 rfl (lv_at hl 0 rfl) ?_
  refine lv_iload_n hx hb dX5_key_1 rfl (lv_at hl 1 rfl) ?_
  refine ol_cR (st1 := [.int (zB (noK k (Rw * Cl)))]) (va_runV (As := [.int k]) (rest := []) ⟨hx, hb, hml, hown, hts⟩ (mr_noKey l G ad iS iA iL iT iC iR r pr ar br f pf af bf tx k Rw Cl hg) (cwV 1 hts (lw_V q1229 q1231 qs28 q73 q1232) rfl rfl rfl (by decide +kernel) ⟨Nat.le_of_ble_eq_true rfl, Nat.le_of_ble_eq_true rfl⟩) (oPc.preV hE (hE.recv (ci := 12) (hP 0 _ rfl) rfl) hP) rfl rfl hl.1 rfl (lv_room (Nat.le_of_ble_eq_true rfl)) dX5_key_2 ⟨Nat.le_of_ble_eq_true rfl, Nat.le_of_ble_eq_true rfl⟩) rfl ?_
  refine ol_if_eqB hx hb (noK k (Rw * Cl)) (tgt := 10) dX5_key_5 (by decide) (fun c_5 => ?_) (fun c_5 => ?_)
  · obtain ⟨hk1, hk2⟩ := noK_f (c_5) (by omega) (by omega)
    refine lv_iload_n hx hb dX5_key_10 rfl (lv_at hl 2 rfl) ?_
    by_cases e_11_0 : x = 0
    · refine lv_tableIn (tgt := 52) (off := 41) hx hb dX5_key_11 (by rw [e_11_0]; decide) (by rw [e_11_0]; decide) (by rw [e_11_0]; rfl) (by decide) ?_
      refine lv_aload_n hx hb dX5_key_52 rfl (lv_at hl 0 rfl) ?_
      refine va_get (D := G.1) (ci := 12) (v := .ref (ad 1)) (C := RX5) (T := TX5) (N := 15) hx hb hts in_X5 hown hE.1 hP 0 rfl rfl 0 (by decide) (hts _ q1135) (fun _ h9 => h9) rfl dX5_key_53 ?_
      refine lv_bipush (v := 20) hx hb dX5_key_56 (by decide) ?_
      refine lv_iload_n hx hb dX5_key_58 rfl (lv_at hl 1 rfl) ?_
      refine ol_top (y := nI (cN k)) hk2 ?_
      refine ol_iadd hx hb 20 (cN k) dX5_key_59 ?_
      refine ol_iald hx hb hE.1 hP 1 0 rfl rfl (20 + (cN k)) (by omega) (by decide) dX5_key_60 ?_
      exact ol_iretE hx hb hr hlocks ⟨congrArg (fun z => some (Value.int z)) (by simp [mKeyV, mKeyD, zB, c_5, e_11_0]), (by simp [mKeyV, mKeyD, zB, c_5, e_11_0])⟩ hP hD hS dX5_key_61
    by_cases e_11_1 : x = 1
    · refine lv_tableIn (tgt := 62) (off := 51) hx hb dX5_key_11 (by rw [e_11_1]; decide) (by rw [e_11_1]; decide) (by rw [e_11_1]; rfl) (by decide) ?_
      refine lv_aload_n hx hb dX5_key_62 rfl (lv_at hl 0 rfl) ?_
      refine lv_iload_n hx hb dX5_key_63 rfl (lv_at hl 1 rfl) ?_
      refine ol_top (y := nI (cN k)) hk2 ?_
      refine ol_cR (st1 := [.int (zB (sn r (cN k)))]) (va_runV (As := [.int (nI (cN k))]) (rest := []) ⟨hx, hb, hml, hown, hts⟩ (mr_isSeen l G ad iS iA iL iT iC iR r pr ar br f pf af bf tx (cN k) (by omega)) (cwV 1 hts (lw_V q1221 q1223 qs27 q73 q1224) rfl rfl rfl (by decide +kernel) ⟨Nat.le_of_ble_eq_true rfl, Nat.le_of_ble_eq_true rfl⟩) (oPc.preV hE (hE.recv (ci := 12) (hP 0 _ rfl) rfl) hP) rfl rfl hl.1 rfl (lv_room (Nat.le_of_ble_eq_true rfl)) dX5_key_64 ⟨Nat.le_of_ble_eq_true rfl, Nat.le_of_ble_eq_true rfl⟩) rfl ?_
      refine ol_if_eqB hx hb (sn r (cN k)) (tgt := 74) dX5_key_67 (by decide) (fun c_67 => ?_) (fun c_67 => ?_)
      · refine lv_iconst (v := 0) hx hb dX5_key_74 (by decide) ?_
        exact ol_iretE hx hb hr hlocks ⟨congrArg (fun z => some (Value.int z)) (by simp [mKeyV, mKeyD, zB, c_5, e_11_0, e_11_1, c_67]), (by simp [mKeyV, mKeyD, zB, c_5, e_11_0, e_11_1, c_67])⟩ hP hD hS dX5_key_75
      · refine lv_iconst (v := 1) hx hb dX5_key_70 (by decide) ?_
        refine lv_goto (tgt := 75) hx hb dX5_key_71 (by decide) ?_
        exact ol_iretE hx hb hr hlocks ⟨congrArg (fun z => some (Value.int z)) (by simp [mKeyV, mKeyD, zB, c_5, e_11_0, e_11_1, c_67]), (by simp [mKeyV, mKeyD, zB, c_5, e_11_0, e_11_1, c_67])⟩ hP hD hS dX5_key_75
    by_cases e_11_2 : x = 2
    · refine lv_tableIn (tgt := 76) (off := 65) hx hb dX5_key_11 (by rw [e_11_2]; decide) (by rw [e_11_2]; decide) (by rw [e_11_2]; rfl) (by decide) ?_
      refine lv_aload_n hx hb dX5_key_76 rfl (lv_at hl 0 rfl) ?_
      refine va_get (D := G.1) (ci := 12) (v := .ref (ad 1)) (C := RX5) (T := TX5) (N := 15) hx hb hts in_X5 hown hE.1 hP 0 rfl rfl 0 (by decide) (hts _ q1135) (fun _ h9 => h9) rfl dX5_key_77 ?_
      refine lv_bipush (v := 68) hx hb dX5_key_80 (by decide) ?_
      refine lv_iload_n hx hb dX5_key_82 rfl (lv_at hl 1 rfl) ?_
      refine ol_top (y := nI (cN k)) hk2 ?_
      refine ol_iadd hx hb 68 (cN k) dX5_key_83 ?_
      refine ol_iald hx hb hE.1 hP 1 0 rfl rfl (68 + (cN k)) (by omega) (by decide) dX5_key_84 ?_
      exact ol_iretE hx hb hr hlocks ⟨congrArg (fun z => some (Value.int z)) (by simp [mKeyV, mKeyD, zB, c_5, e_11_0, e_11_1, e_11_2]), (by simp [mKeyV, mKeyD, zB, c_5, e_11_0, e_11_1, e_11_2])⟩ hP hD hS dX5_key_85
    by_cases e_11_3 : x = 3
    · refine lv_tableIn (tgt := 86) (off := 75) hx hb dX5_key_11 (by rw [e_11_3]; decide) (by rw [e_11_3]; decide) (by rw [e_11_3]; rfl) (by decide) ?_
      refine lv_aload_n hx hb dX5_key_86 rfl (lv_at hl 0 rfl) ?_
      refine lv_iload_n hx hb dX5_key_87 rfl (lv_at hl 1 rfl) ?_
      refine ol_top (y := nI (cN k)) hk2 ?_
      refine ol_cR (st1 := [.int (zB (sn r (cN k)))]) (va_runV (As := [.int (nI (cN k))]) (rest := []) ⟨hx, hb, hml, hown, hts⟩ (mr_isSeen l G ad iS iA iL iT iC iR r pr ar br f pf af bf tx (cN k) (by omega)) (cwV 1 hts (lw_V q1221 q1223 qs27 q73 q1224) rfl rfl rfl (by decide +kernel) ⟨Nat.le_of_ble_eq_true rfl, Nat.le_of_ble_eq_true rfl⟩) (oPc.preV hE (hE.recv (ci := 12) (hP 0 _ rfl) rfl) hP) rfl rfl hl.1 rfl (lv_room (Nat.le_of_ble_eq_true rfl)) dX5_key_88 ⟨Nat.le_of_ble_eq_true rfl, Nat.le_of_ble_eq_true rfl⟩) rfl ?_
      refine ol_if_eqB hx hb (sn r (cN k)) (tgt := 106) dX5_key_91 (by decide) (fun c_91 => ?_) (fun c_91 => ?_)
      · refine lv_iconst (v := 0) hx hb dX5_key_106 (by decide) ?_
        exact ol_iretE hx hb hr hlocks ⟨congrArg (fun z => some (Value.int z)) (by simp [mKeyV, mKeyD, zB, c_5, e_11_0, e_11_1, e_11_2, e_11_3, c_91]), (by simp [mKeyV, mKeyD, zB, c_5, e_11_0, e_11_1, e_11_2, e_11_3, c_91])⟩ hP hD hS dX5_key_107
      · refine lv_aload_n hx hb dX5_key_94 rfl (lv_at hl 0 rfl) ?_
        refine va_get (D := G.1) (ci := 12) (v := .ref (ad 1)) (C := RX5) (T := TX5) (N := 15) hx hb hts in_X5 hown hE.1 hP 0 rfl rfl 0 (by decide) (hts _ q1135) (fun _ h9 => h9) rfl dX5_key_95 ?_
        refine lv_bipush (v := 116) hx hb dX5_key_98 (by decide) ?_
        refine lv_iload_n hx hb dX5_key_100 rfl (lv_at hl 1 rfl) ?_
        refine ol_top (y := nI (cN k)) hk2 ?_
        refine ol_iadd hx hb 116 (cN k) dX5_key_101 ?_
        refine ol_iald hx hb hE.1 hP 1 0 rfl rfl (116 + (cN k)) (by omega) (by decide) dX5_key_102 ?_
        refine lv_goto (tgt := 107) hx hb dX5_key_103 (by decide) ?_
        exact ol_iretE hx hb hr hlocks ⟨congrArg (fun z => some (Value.int z)) (by simp [mKeyV, mKeyD, zB, c_5, e_11_0, e_11_1, e_11_2, e_11_3, c_91]), (by simp [mKeyV, mKeyD, zB, c_5, e_11_0, e_11_1, e_11_2, e_11_3, c_91])⟩ hP hD hS dX5_key_107
    by_cases e_11_4 : x = 4
    · refine lv_tableIn (tgt := 108) (off := 97) hx hb dX5_key_11 (by rw [e_11_4]; decide) (by rw [e_11_4]; decide) (by rw [e_11_4]; rfl) (by decide) ?_
      refine lv_aload_n hx hb dX5_key_108 rfl (lv_at hl 0 rfl) ?_
      refine va_get (D := G.1) (ci := 12) (v := .ref (ad 1)) (C := RX5) (T := TX5) (N := 15) hx hb hts in_X5 hown hE.1 hP 0 rfl rfl 0 (by decide) (hts _ q1135) (fun _ h9 => h9) rfl dX5_key_109 ?_
      refine lv_sipush (v := 260) hx hb dX5_key_112 (by decide) ?_
      refine lv_iload_n hx hb dX5_key_115 rfl (lv_at hl 1 rfl) ?_
      refine ol_top (y := nI (cN k)) hk2 ?_
      refine ol_iadd hx hb 260 (cN k) dX5_key_116 ?_
      refine ol_iald hx hb hE.1 hP 1 0 rfl rfl (260 + (cN k)) (by omega) (by decide) dX5_key_117 ?_
      exact ol_iretE hx hb hr hlocks ⟨congrArg (fun z => some (Value.int z)) (by simp [mKeyV, mKeyD, zB, c_5, e_11_0, e_11_1, e_11_2, e_11_3, e_11_4]), (by simp [mKeyV, mKeyD, zB, c_5, e_11_0, e_11_1, e_11_2, e_11_3, e_11_4])⟩ hP hD hS dX5_key_118
    by_cases e_11_5 : x = 5
    · refine lv_tableIn (tgt := 119) (off := 108) hx hb dX5_key_11 (by rw [e_11_5]; decide) (by rw [e_11_5]; decide) (by rw [e_11_5]; rfl) (by decide) ?_
      refine lv_aload_n hx hb dX5_key_119 rfl (lv_at hl 0 rfl) ?_
      refine lv_iload_n hx hb dX5_key_120 rfl (lv_at hl 1 rfl) ?_
      refine ol_top (y := nI (cN k)) hk2 ?_
      refine ol_cR (st1 := [.int (mSh r (nI (cN k)))]) (va_runV (As := [.int (nI (cN k))]) (rest := []) ⟨hx, hb, hml, hown, hts⟩ (mr_shiftOf l G ad iS iA iL iT iC iR r pr ar br f pf af bf tx (nI (cN k)) ) (cwV 1 hts (lw_V q1233 q1235 qs29 q73 q1236) rfl rfl rfl (by decide +kernel) ⟨Nat.le_of_ble_eq_true rfl, Nat.le_of_ble_eq_true rfl⟩) (oPc.preV hE (hE.recv (ci := 12) (hP 0 _ rfl) rfl) hP) rfl rfl hl.1 rfl (lv_room (Nat.le_of_ble_eq_true rfl)) dX5_key_121 ⟨Nat.le_of_ble_eq_true rfl, Nat.le_of_ble_eq_true rfl⟩) rfl ?_
      exact ol_iretE hx hb hr hlocks ⟨congrArg (fun z => some (Value.int z)) (by simp [mKeyV, mKeyD, zB, c_5, e_11_0, e_11_1, e_11_2, e_11_3, e_11_4, e_11_5]), (by simp [mKeyV, mKeyD, zB, c_5, e_11_0, e_11_1, e_11_2, e_11_3, e_11_4, e_11_5])⟩ hP hD hS dX5_key_124
    by_cases e_11_6 : x = 6
    · refine lv_tableIn (tgt := 125) (off := 114) hx hb dX5_key_11 (by rw [e_11_6]; decide) (by rw [e_11_6]; decide) (by rw [e_11_6]; rfl) (by decide) ?_
      refine lv_aload_n hx hb dX5_key_125 rfl (lv_at hl 0 rfl) ?_
      refine lv_iload_n hx hb dX5_key_126 rfl (lv_at hl 1 rfl) ?_
      refine ol_top (y := nI (cN k)) hk2 ?_
      refine ol_cM (st1 := [.int (zB (mWs r Rw Cl (cN k)))]) (va_runV (As := [.int (nI (cN k))]) (rest := []) ⟨hx, hb, hml, hown, hts⟩ (mm_wouldSense l G ad iS iA iL iT iC iR r pr ar br f pf af bf tx (cN k) Rw Cl hg (by omega) H.size) (cwV 1 hts (lw_V q1387 q1389 qs53 q73 q1390) rfl rfl rfl (by decide +kernel) ⟨Nat.le_of_ble_eq_true rfl, Nat.le_of_ble_eq_true rfl⟩) (oPc.preV hE (hE.recv (ci := 12) (hP 0 _ rfl) rfl) ⟨rfl, hP, oD_weak hD (fun _ _ => trivial), trivial⟩) rfl rfl hl.1 rfl (lv_room (Nat.le_of_ble_eq_true rfl)) dX5_key_127 ⟨Nat.le_of_ble_eq_true rfl, Nat.le_of_ble_eq_true rfl⟩) hP hD hS hA rfl (fun H locs hP hD hS => ?_)
      refine ol_if_eqB hx hb (mWs r Rw Cl (cN k)) (tgt := 137) dX5_key_130 (by decide) (fun c_130 => ?_) (fun c_130 => ?_)
      · refine lv_iconst (v := 0) hx hb dX5_key_137 (by decide) ?_
        exact ol_iretE hx hb hr hlocks ⟨congrArg (fun z => some (Value.int z)) (by simp [mKeyV, mKeyD, zB, c_5, e_11_0, e_11_1, e_11_2, e_11_3, e_11_4, e_11_5, e_11_6, c_130]), (by simp [mKeyV, mKeyD, zB, c_5, e_11_0, e_11_1, e_11_2, e_11_3, e_11_4, e_11_5, e_11_6, c_130])⟩ hP hD hS dX5_key_138
      · refine lv_iconst (v := 1) hx hb dX5_key_133 (by decide) ?_
        refine lv_goto (tgt := 138) hx hb dX5_key_134 (by decide) ?_
        exact ol_iretE hx hb hr hlocks ⟨congrArg (fun z => some (Value.int z)) (by simp [mKeyV, mKeyD, zB, c_5, e_11_0, e_11_1, e_11_2, e_11_3, e_11_4, e_11_5, e_11_6, c_130]), (by simp [mKeyV, mKeyD, zB, c_5, e_11_0, e_11_1, e_11_2, e_11_3, e_11_4, e_11_5, e_11_6, c_130])⟩ hP hD hS dX5_key_138
    refine lv_tableOut (tgt := 139) hx hb dX5_key_11 (sw_out (n := 7) (by decide) (fun k hk => by
      rcases (show k = 0 ∨ k = 1 ∨ k = 2 ∨ k = 3 ∨ k = 4 ∨ k = 5 ∨ k = 6 by omega) with rfl | rfl | rfl | rfl | rfl | rfl | rfl
      · exact e_11_0
      · exact e_11_1
      · exact e_11_2
      · exact e_11_3
      · exact e_11_4
      · exact e_11_5
      · exact e_11_6
      )) (by decide) ?_
    refine lv_bipush (v := (-2)) hx hb dX5_key_139 (by decide) ?_
    exact ol_iretE hx hb hr hlocks ⟨congrArg (fun z => some (Value.int z)) (by simp [mKeyV, mKeyD, zB, c_5, e_11_0, e_11_1, e_11_2, e_11_3, e_11_4, e_11_5, e_11_6]), (by simp [mKeyV, mKeyD, zB, c_5, e_11_0, e_11_1, e_11_2, e_11_3, e_11_4, e_11_5, e_11_6])⟩ hP hD hS dX5_key_141
  · refine lv_iconst (v := (-1)) hx hb dX5_key_8 (by decide) ?_
    exact ol_iretE hx hb hr hlocks ⟨congrArg (fun z => some (Value.int z)) (by simp [mKeyV, mKeyD, zB, c_5]), (by simp [mKeyV, mKeyD, zB, c_5])⟩ hP hD hS dX5_key_9
set_option maxHeartbeats 4000000 in
set_option maxRecDepth 100000 in
theorem mm_ghostsBy (l : Launch) (G : oG) (ad : Nat → Nat) (iS : Int32) (iA : Int32) (iL : Int32) (iT : Int32) (iC : Int32) (iR : Int32) (r : Nat → Int32) (pr : Nat → Int32) (ar : Nat → Int32) (br : Nat → Int32) (f : Nat → UInt32) (pf : Nat → UInt32) (af : Nat → UInt32) (bf : Nat → UInt32) (tx : Nat → Int32) (k : Int32) (Rw Cl : Nat) (hg : mG r Rw Cl) (sz : Nat) : Met l yX5_ghostsBy (ws_ yX5_ghostsBy cX5_ghostsBy 8 (some .int)) ({ frames := 3, cells := 0, slots := 0, locals := 70 }) (oPc G [.ref (ad 0), .int k] (oPE G (mW G ad iS iA iL iT iC iR r pr ar br f pf af bf tx) sz (fun _ => True))) (oE G (fun v_ W_ => v_ = some (.int (if noK k (Rw * Cl) = true then -1 else mGh r Rw Cl (cN k) (Rw * Cl))) ∧ W_ = mW G ad iS iA iL iT (if noK k (Rw * Cl) = true then iC else (mGhW r iC iR Rw Cl (cN k) (Rw * Cl)).1) (if noK k (Rw * Cl) = true then iR else (mGhW r iC iR Rw Cl (cN k) (Rw * Cl)).2) r pr ar br f pf af bf tx) (mW G ad iS iA iL iT iC iR r pr ar br f pf af bf tx) sz) 0 0 (va_A (mW G ad iS iA iL iT iC iR r pr ar br f pf af bf tx) sz) := by
  refine Met.ofW (cc := cX5_ghostsBy) (maxL := 8) (ret := (some .int)) (by decide) rfl ?_
  intro p e s m args below meth c s₁ B hml hv
  obtain ⟨rfl, ⟨hsz, hP, hD0, hX⟩, hE⟩ := hv
  have hx := B.exec
  have hb := B.bytes
  have hr := B.returns
  have hts := atoms_spec (ws := ws_ yX5_ghostsBy cX5_ghostsBy 8 (some .int)) B.pre
  have hts : ∀ w ∈ lw_all, w.before _ s = true := fun w h => hts w (List.mem_cons_of_mem _ h)
  have hown : s.vm.findClass RX5 = some m.cls := findClass_of_methodNamed B.named
  have hlocks := B.notSynchronized
  subst hsz
  have hD := hD0.self (sz := s.heap.size)
  have hA : ∀ q : Nat, s.heap.size ≤ q → va_A (mW G ad iS iA iL iT iC iR r pr ar br f pf af bf tx) s.heap.size q := fun q h => Or.inr h
  have hl := lv_entry ([.ref (ad 0), .int k]) (n := 8) (Nat.le_of_ble_eq_true rfl)
  rw [lg_entry_eq]
  generalize (lg_sl ([.ref (ad 0), .int k]) ++ List.replicate (8 - (lg_sl ([.ref (ad 0), .int k])).length) Slot.unset).toArray = ls at hl ⊢
  replace hl : lv_has ls 8 [(0, .ref (ad 0)), (1, .int k)] := hl
  refine ol_start (A := va_A (mW G ad iS iA iL iT iC iR r pr ar br f pf af bf tx) s.heap.size) (fun H locs hH hS => ?_)
  rw [← hH] at hP
  clear hH
  have hgn := mG_n hg
  have hg' := hg
  obtain ⟨hg0, hg1, hg2, hg3, hg4, hg5⟩ := hg'
  refine lv_aload_n hx hb dX5_ghostsBy_0 rfl (lv_at hl 0 rfl) ?_
  refine lv_iload_n hx hb dX5_ghostsBy_1 rfl (lv_at hl 1 rfl) ?_
  refine ol_cR (st1 := [.int (zB (noK k (Rw * Cl)))]) (va_runV (As := [.int k]) (rest := []) ⟨hx, hb, hml, hown, hts⟩ (mr_noKey l G ad iS iA iL iT iC iR r pr ar br f pf af bf tx k Rw Cl hg) (cwV 1 hts (lw_V q1229 q1231 qs28 q73 q1232) rfl rfl rfl (by decide +kernel) ⟨Nat.le_of_ble_eq_true rfl, Nat.le_of_ble_eq_true rfl⟩) (oPc.preV hE (hE.recv (ci := 12) (hP 0 _ rfl) rfl) hP) rfl rfl hl.1 rfl (lv_room (Nat.le_of_ble_eq_true rfl)) dX5_ghostsBy_2 ⟨Nat.le_of_ble_eq_true rfl, Nat.le_of_ble_eq_true rfl⟩) rfl ?_
  refine ol_if_eqB hx hb (noK k (Rw * Cl)) (tgt := 10) dX5_ghostsBy_5 (by decide) (fun c_5 => ?_) (fun c_5 => ?_)
  · obtain ⟨hk1, hk2⟩ := noK_f (c_5) (by omega) (by omega)
    refine lv_aload_n hx hb dX5_ghostsBy_10 rfl (lv_at hl 0 rfl) ?_
    refine va_get (D := G.1) (ci := 12) (v := .ref (ad 1)) (C := RX5) (T := TX5) (N := 15) hx hb hts in_X5 hown hE.1 hP 0 rfl rfl 0 (by decide) (hts _ q1135) (fun _ h9 => h9) rfl dX5_ghostsBy_11 ?_
    refine lv_bipush (v := 20) hx hb dX5_ghostsBy_14 (by decide) ?_
    refine lv_iload_n hx hb dX5_ghostsBy_16 rfl (lv_at hl 1 rfl) ?_
    refine ol_top (y := nI (cN k)) hk2 ?_
    refine ol_iadd hx hb 20 (cN k) dX5_ghostsBy_17 ?_
    refine ol_iald hx hb hE.1 hP 1 0 rfl rfl (20 + (cN k)) (by omega) (by decide) dX5_ghostsBy_18 ?_
    refine lv_istore_n (lv' := [(2, .int (r (20 + (cN k)))), (0, .ref (ad 0)), (1, .int k)]) hx hb dX5_ghostsBy_19 rfl hl (by decide) rfl (fun ls hl => ?_)
    refine lv_iload_n hx hb dX5_ghostsBy_20 rfl (lv_at hl 0 rfl) ?_
    refine lv_if_ge (tgt := 28) hx hb dX5_ghostsBy_21 (by decide) (fun c_21 => ?_) (fun c_21 => ?_)
    · refine lv_bipush (v := (-5)) hx hb dX5_ghostsBy_28 (by decide) ?_
      refine lv_istore_n (lv' := [(3, .int (-5)), (2, .int (r (20 + (cN k)))), (0, .ref (ad 0)), (1, .int k)]) hx hb dX5_ghostsBy_30 rfl hl (by decide) rfl (fun ls hl => ?_)
      refine lv_bipush (v := 100) hx hb dX5_ghostsBy_31 (by decide) ?_
      refine lv_istore (lv' := [(4, .int 100), (3, .int (-5)), (2, .int (r (20 + (cN k)))), (0, .ref (ad 0)), (1, .int k)]) hx hb dX5_ghostsBy_33 hl (by decide) rfl (fun ls hl => ?_)
      refine lv_iconst (v := 0) hx hb dX5_ghostsBy_35 (by decide) ?_
      refine lv_istore (lv' := [(5, .int 0), (4, .int 100), (3, .int (-5)), (2, .int (r (20 + (cN k)))), (0, .ref (ad 0)), (1, .int k)]) hx hb dX5_ghostsBy_36 hl (by decide) rfl (fun ls hl => ?_)
      have ho : mGhO r (cN k) = (-5) := by simp [mGhO, c_5, c_21, Int32.not_lt.mpr c_21]
      replace hl : lv_has ls 8 [(5, .int 0), (4, .int 100), (3, .int (mGhO r (cN k))), (2, .int (r (20 + (cN k)))), (0, .ref (ad 0)), (1, .int k)] := by rw [ho]; exact hl
      refine ol_for (P := fun i1 H locs ls => lv_has ls 8 [(5, .int (nI i1)), (3, .int (mGhO r (cN k))), (2, .int (r (20 + (cN k)))), (0, .ref (ad 0)), (1, .int k), (4, .int (mGh r Rw Cl (cN k) i1))] ∧ va_P G.1 cl0 (mW G ad iS iA iL iT ((mGhW r iC iR Rw Cl (cN k) i1).1) ((mGhW r iC iR Rw Cl (cN k) i1).2) r pr ar br f pf af bf tx) H ∧ va_D (va_A (mW G ad iS iA iL iT iC iR r pr ar br f pf af bf tx) s.heap.size) (mW G ad iS iA iL iT ((mGhW r iC iR Rw Cl (cN k) i1).1) ((mGhW r iC iR Rw Cl (cN k) i1).2) r pr ar br f pf af bf tx) ∧ va_S (va_A (mW G ad iS iA iL iT iC iR r pr ar br f pf af bf tx) s.heap.size) s.heap H locs) (Rw * Cl) 0 (by omega) ⟨lv_sub hl [0, 2, 3, 4, 5, 1] rfl, hP, hD, hS⟩ (fun i1 H locs ls hi1 hI ih1 => ?_)
      obtain ⟨hl, hP, hD, hS⟩ := hI
      refine lv_iload hx hb dX5_ghostsBy_38 (lv_at hl 0 rfl) ?_
      refine lv_aload_n hx hb dX5_ghostsBy_40 rfl (lv_at hl 3 rfl) ?_
      refine ol_cR (st1 := [.int (nI (Rw * Cl)), .int (nI i1)]) (va_runV (As := []) (rest := [.int (nI i1)]) ⟨hx, hb, hml, hown, hts⟩ (mr_keys l G ad iS iA iL iT ((mGhW r iC iR Rw Cl (cN k) i1).1) ((mGhW r iC iR Rw Cl (cN k) i1).2) r pr ar br f pf af bf tx Rw Cl hg) (cwV 0 hts (lw_V q1213 q1215 qs25 q73 q1216) rfl rfl rfl (by decide +kernel) ⟨Nat.le_of_ble_eq_true rfl, Nat.le_of_ble_eq_true rfl⟩) (oPc.preV hE (hE.recv (ci := 12) (hP 0 _ rfl) rfl) hP) rfl rfl hl.1 rfl (lv_room (Nat.le_of_ble_eq_true rfl)) dX5_ghostsBy_41 ⟨Nat.le_of_ble_eq_true rfl, Nat.le_of_ble_eq_true rfl⟩) rfl ?_
      refine ol_icmp_ge hx hb i1 (Rw * Cl) (by omega) (by omega) (tgt := 138) dX5_ghostsBy_44 (by decide) (fun c_44 => ?_) (fun c_44 => ?_)
      · have ei1 : Rw * Cl = i1 := by omega
        subst ei1
        refine lv_iload hx hb dX5_ghostsBy_138 (lv_at hl 5 rfl) ?_
        exact ol_iretE hx hb hr hlocks ⟨congrArg (fun z => some (Value.int z)) (by simp [zB, c_5, c_21, Int32.not_lt.mpr c_21, c_44, Nat.not_lt.mpr c_44]), (by simp [zB, c_5, c_21, Int32.not_lt.mpr c_21, c_44, Nat.not_lt.mpr c_44])⟩ hP hD hS dX5_ghostsBy_140
      · refine lv_iload hx hb dX5_ghostsBy_47 (lv_at hl 0 rfl) ?_
        refine lv_iload_n hx hb dX5_ghostsBy_49 rfl (lv_at hl 4 rfl) ?_
        refine ol_top (y := nI (cN k)) hk2 ?_
        refine ol_icmp_eq hx hb i1 (cN k) (by omega) (by omega) (tgt := 132) dX5_ghostsBy_50 (by decide) (fun c_50 => ?_) (fun c_50 => ?_)
        · refine ol_iinc (k := 0) (lv' := [(5, .int (nI (i1 + 1))), (3, .int (mGhO r (cN k))), (2, .int (r (20 + (cN k)))), (0, .ref (ad 0)), (1, .int k), (4, .int (mGh r Rw Cl (cN k) i1))]) hx hb 1 i1 dX5_ghostsBy_132 hl rfl (by decide) rfl (fun ls hl => ?_)
          refine lv_goto (tgt := 38) hx hb dX5_ghostsBy_135 (by decide) ?_
          refine ih1 H locs ls (by omega) ⟨?_, ?_, ?_, hS⟩
          · rw [show mGh r Rw Cl (cN k) (i1 + 1) = mGh r Rw Cl (cN k) i1 from by simp [mGh, mGhC, mGhD, c_5, c_21, Int32.not_lt.mpr c_21, c_44, Nat.not_le.mpr c_44, c_50]]; exact lv_sub hl [0, 1, 2, 3, 4, 5] rfl
          · rw [show mGhW r iC iR Rw Cl (cN k) (i1 + 1) = ((mGhW r iC iR Rw Cl (cN k) i1).1, (mGhW r iC iR Rw Cl (cN k) i1).2) from by simp [mGhW, mGhC, c_5, c_21, Int32.not_lt.mpr c_21, c_44, Nat.not_le.mpr c_44, c_50]]; exact hP
          · exact mD_any hD
        · refine lv_aload_n hx hb dX5_ghostsBy_53 rfl (lv_at hl 3 rfl) ?_
          refine lv_iload hx hb dX5_ghostsBy_54 (lv_at hl 0 rfl) ?_
          refine ol_cR (st1 := [.int (zB (dn r i1))]) (va_runV (As := [.int (nI i1)]) (rest := []) ⟨hx, hb, hml, hown, hts⟩ (mr_isDown l G ad iS iA iL iT ((mGhW r iC iR Rw Cl (cN k) i1).1) ((mGhW r iC iR Rw Cl (cN k) i1).2) r pr ar br f pf af bf tx i1 (by omega)) (cwV 1 hts (lw_V q1217 q1219 qs26 q73 q1220) rfl rfl rfl (by decide +kernel) ⟨Nat.le_of_ble_eq_true rfl, Nat.le_of_ble_eq_true rfl⟩) (oPc.preV hE (hE.recv (ci := 12) (hP 0 _ rfl) rfl) hP) rfl rfl hl.1 rfl (lv_room (Nat.le_of_ble_eq_true rfl)) dX5_ghostsBy_56 ⟨Nat.le_of_ble_eq_true rfl, Nat.le_of_ble_eq_true rfl⟩) rfl ?_
          refine ol_if_neB hx hb (dn r i1) (tgt := 132) dX5_ghostsBy_59 (by decide) (fun c_59 => ?_) (fun c_59 => ?_)
          · refine ol_iinc (k := 0) (lv' := [(5, .int (nI (i1 + 1))), (3, .int (mGhO r (cN k))), (2, .int (r (20 + (cN k)))), (0, .ref (ad 0)), (1, .int k), (4, .int (mGh r Rw Cl (cN k) i1))]) hx hb 1 i1 dX5_ghostsBy_132 hl rfl (by decide) rfl (fun ls hl => ?_)
            refine lv_goto (tgt := 38) hx hb dX5_ghostsBy_135 (by decide) ?_
            refine ih1 H locs ls (by omega) ⟨?_, ?_, ?_, hS⟩
            · rw [show mGh r Rw Cl (cN k) (i1 + 1) = mGh r Rw Cl (cN k) i1 from by simp [mGh, mGhC, mGhD, c_5, c_21, Int32.not_lt.mpr c_21, c_44, Nat.not_le.mpr c_44, c_50, c_59]]; exact lv_sub hl [0, 1, 2, 3, 4, 5] rfl
            · rw [show mGhW r iC iR Rw Cl (cN k) (i1 + 1) = ((mGhW r iC iR Rw Cl (cN k) i1).1, (mGhW r iC iR Rw Cl (cN k) i1).2) from by simp [mGhW, mGhC, c_5, c_21, Int32.not_lt.mpr c_21, c_44, Nat.not_le.mpr c_44, c_50, c_59]]; exact hP
            · exact mD_any hD
          · refine lv_aload_n hx hb dX5_ghostsBy_62 rfl (lv_at hl 3 rfl) ?_
            refine lv_iload hx hb dX5_ghostsBy_63 (lv_at hl 0 rfl) ?_
            refine ol_cM (st1 := [.int (zB (mWs r Rw Cl i1))]) (va_runV (As := [.int (nI i1)]) (rest := []) ⟨hx, hb, hml, hown, hts⟩ (mm_wouldSense l G ad iS iA iL iT ((mGhW r iC iR Rw Cl (cN k) i1).1) ((mGhW r iC iR Rw Cl (cN k) i1).2) r pr ar br f pf af bf tx i1 Rw Cl hg (by omega) H.size) (cwV 1 hts (lw_V q1387 q1389 qs53 q73 q1390) rfl rfl rfl (by decide +kernel) ⟨Nat.le_of_ble_eq_true rfl, Nat.le_of_ble_eq_true rfl⟩) (oPc.preV hE (hE.recv (ci := 12) (hP 0 _ rfl) rfl) ⟨rfl, hP, oD_weak hD (fun _ _ => trivial), trivial⟩) rfl rfl hl.1 rfl (lv_room (Nat.le_of_ble_eq_true rfl)) dX5_ghostsBy_65 ⟨Nat.le_of_ble_eq_true rfl, Nat.le_of_ble_eq_true rfl⟩) hP hD hS hA rfl (fun H locs hP hD hS => ?_)
            refine lv_istore (lv' := [(6, .int (zB (mWs r Rw Cl i1))), (5, .int (nI i1)), (3, .int (mGhO r (cN k))), (2, .int (r (20 + (cN k)))), (0, .ref (ad 0)), (1, .int k), (4, .int (mGh r Rw Cl (cN k) i1))]) hx hb dX5_ghostsBy_68 hl (by decide) rfl (fun ls hl => ?_)
            refine lv_aload_n hx hb dX5_ghostsBy_70 rfl (lv_at hl 4 rfl) ?_
            refine va_get (D := G.1) (ci := 12) (v := .ref (ad 1)) (C := RX5) (T := TX5) (N := 15) hx hb hts in_X5 hown hE.1 hP 0 rfl rfl 0 (by decide) (hts _ q1135) (fun _ h9 => h9) rfl dX5_ghostsBy_71 ?_
            refine lv_bipush (v := 20) hx hb dX5_ghostsBy_74 (by decide) ?_
            refine lv_iload_n hx hb dX5_ghostsBy_76 rfl (lv_at hl 5 rfl) ?_
            refine ol_top (y := nI (cN k)) hk2 ?_
            refine ol_iadd hx hb 20 (cN k) dX5_ghostsBy_77 ?_
            refine lv_iload_n hx hb dX5_ghostsBy_78 rfl (lv_at hl 2 rfl) ?_
            refine ol_iast hx hb hE.1 hP hD hS 1 0 rfl rfl (20 + (cN k)) (by omega) (by decide) dX5_ghostsBy_79 (fun H locs hP hD hS => ?_)
            replace hP : va_P G.1 cl0 (mW G ad iS iA iL iT (nI (mDrv r Rw Cl (i1 / Cl)).2) (nI (mDrv r Rw Cl (i1 / Cl)).1) (upd r (20 + (cN k)) (mGhO r (cN k))) pr ar br f pf af bf tx) H := hP
            replace hD : va_D (va_A (mW G ad iS iA iL iT iC iR r pr ar br f pf af bf tx) s.heap.size) (mW G ad iS iA iL iT (nI (mDrv r Rw Cl (i1 / Cl)).2) (nI (mDrv r Rw Cl (i1 / Cl)).1) (upd r (20 + (cN k)) (mGhO r (cN k))) pr ar br f pf af bf tx) := hD
            refine lv_aload_n hx hb dX5_ghostsBy_80 rfl (lv_at hl 4 rfl) ?_
            refine lv_iload hx hb dX5_ghostsBy_81 (lv_at hl 1 rfl) ?_
            refine ol_cM (st1 := [.int (zB (mWs (upd r (20 + (cN k)) (mGhO r (cN k))) Rw Cl i1))]) (va_runV (As := [.int (nI i1)]) (rest := []) ⟨hx, hb, hml, hown, hts⟩ (mm_wouldSense l G ad iS iA iL iT (nI (mDrv r Rw Cl (i1 / Cl)).2) (nI (mDrv r Rw Cl (i1 / Cl)).1) (upd r (20 + (cN k)) (mGhO r (cN k))) pr ar br f pf af bf tx i1 Rw Cl (mG_upd (by omega) hg) (by omega) H.size) (cwV 1 hts (lw_V q1387 q1389 qs53 q73 q1390) rfl rfl rfl (by decide +kernel) ⟨Nat.le_of_ble_eq_true rfl, Nat.le_of_ble_eq_true rfl⟩) (oPc.preV hE (hE.recv (ci := 12) (hP 0 _ rfl) rfl) ⟨rfl, hP, oD_weak hD (fun _ _ => trivial), trivial⟩) rfl rfl hl.1 rfl (lv_room (Nat.le_of_ble_eq_true rfl)) dX5_ghostsBy_83 ⟨Nat.le_of_ble_eq_true rfl, Nat.le_of_ble_eq_true rfl⟩) hP hD hS hA rfl (fun H locs hP hD hS => ?_)
            refine lv_istore (lv' := [(7, .int (zB (mWs (upd r (20 + (cN k)) (mGhO r (cN k))) Rw Cl i1))), (6, .int (zB (mWs r Rw Cl i1))), (5, .int (nI i1)), (3, .int (mGhO r (cN k))), (2, .int (r (20 + (cN k)))), (0, .ref (ad 0)), (1, .int k), (4, .int (mGh r Rw Cl (cN k) i1))]) hx hb dX5_ghostsBy_86 hl (by decide) rfl (fun ls hl => ?_)
            refine lv_aload_n hx hb dX5_ghostsBy_88 rfl (lv_at hl 5 rfl) ?_
            refine va_get (D := G.1) (ci := 12) (v := .ref (ad 1)) (C := RX5) (T := TX5) (N := 15) hx hb hts in_X5 hown hE.1 hP 0 rfl rfl 0 (by decide) (hts _ q1135) (fun _ h9 => h9) rfl dX5_ghostsBy_89 ?_
            refine lv_bipush (v := 20) hx hb dX5_ghostsBy_92 (by decide) ?_
            refine lv_iload_n hx hb dX5_ghostsBy_94 rfl (lv_at hl 6 rfl) ?_
            refine ol_top (y := nI (cN k)) hk2 ?_
            refine ol_iadd hx hb 20 (cN k) dX5_ghostsBy_95 ?_
            refine lv_iload_n hx hb dX5_ghostsBy_96 rfl (lv_at hl 4 rfl) ?_
            refine ol_iast hx hb hE.1 hP hD hS 1 0 rfl rfl (20 + (cN k)) (by omega) (by decide) dX5_ghostsBy_97 (fun H locs hP hD hS => ?_)
            replace hP : va_P G.1 cl0 (mW G ad iS iA iL iT (nI (mDrv (upd r (20 + (cN k)) (mGhO r (cN k))) Rw Cl (i1 / Cl)).2) (nI (mDrv (upd r (20 + (cN k)) (mGhO r (cN k))) Rw Cl (i1 / Cl)).1) (upd (upd r (20 + (cN k)) (mGhO r (cN k))) (20 + (cN k)) (r (20 + (cN k)))) pr ar br f pf af bf tx) H := hP
            replace hD : va_D (va_A (mW G ad iS iA iL iT iC iR r pr ar br f pf af bf tx) s.heap.size) (mW G ad iS iA iL iT (nI (mDrv (upd r (20 + (cN k)) (mGhO r (cN k))) Rw Cl (i1 / Cl)).2) (nI (mDrv (upd r (20 + (cN k)) (mGhO r (cN k))) Rw Cl (i1 / Cl)).1) (upd (upd r (20 + (cN k)) (mGhO r (cN k))) (20 + (cN k)) (r (20 + (cN k)))) pr ar br f pf af bf tx) := hD
            rw [upd_back] at hP hD
            refine lv_iload hx hb dX5_ghostsBy_98 (lv_at hl 7 rfl) ?_
            refine lv_iload hx hb dX5_ghostsBy_100 (lv_at hl 1 rfl) ?_
            refine ol_if_eqB hx hb (mWs r Rw Cl i1) (tgt := 114) dX5_ghostsBy_102 (by decide) (fun c_102 => ?_) (fun c_102 => ?_)
            · refine lv_iload hx hb dX5_ghostsBy_114 (lv_at hl 1 rfl) ?_
              refine ol_if_neB hx hb (mWs r Rw Cl i1) (tgt := 128) dX5_ghostsBy_116 (by decide) (fun c_116 => ?_) (fun c_116 => ?_)
              · exact absurd (c_116.symm.trans c_102) (by decide)
              · refine lv_iload hx hb dX5_ghostsBy_119 (lv_at hl 0 rfl) ?_
                refine ol_if_eqB hx hb (mWs (upd r (20 + (cN k)) (mGhO r (cN k))) Rw Cl i1) (tgt := 128) dX5_ghostsBy_121 (by decide) (fun c_121 => ?_) (fun c_121 => ?_)
                · refine lv_iconst (v := 0) hx hb dX5_ghostsBy_128 (by decide) ?_
                  refine lv_iadd hx hb dX5_ghostsBy_129 ?_
                  refine lv_istore (lv' := [(4, .int ((mGh r Rw Cl (cN k) i1) + 0)), (7, .int (zB (mWs (upd r (20 + (cN k)) (mGhO r (cN k))) Rw Cl i1))), (6, .int (zB (mWs r Rw Cl i1))), (5, .int (nI i1)), (3, .int (mGhO r (cN k))), (2, .int (r (20 + (cN k)))), (0, .ref (ad 0)), (1, .int k)]) hx hb dX5_ghostsBy_130 hl (by decide) rfl (fun ls hl => ?_)
                  refine ol_iinc (k := 3) (lv' := [(5, .int (nI (i1 + 1))), (4, .int ((mGh r Rw Cl (cN k) i1) + 0)), (7, .int (zB (mWs (upd r (20 + (cN k)) (mGhO r (cN k))) Rw Cl i1))), (6, .int (zB (mWs r Rw Cl i1))), (3, .int (mGhO r (cN k))), (2, .int (r (20 + (cN k)))), (0, .ref (ad 0)), (1, .int k)]) hx hb 1 i1 dX5_ghostsBy_132 hl rfl (by decide) rfl (fun ls hl => ?_)
                  refine lv_goto (tgt := 38) hx hb dX5_ghostsBy_135 (by decide) ?_
                  refine ih1 H locs ls (by omega) ⟨?_, ?_, ?_, hS⟩
                  · rw [show mGh r Rw Cl (cN k) (i1 + 1) = (mGh r Rw Cl (cN k) i1) + 0 from by simp [mGh, mGhC, mGhD, c_5, c_21, Int32.not_lt.mpr c_21, c_44, Nat.not_le.mpr c_44, c_50, c_59, c_102, c_116, c_121]]; exact lv_sub hl [0, 4, 5, 6, 7, 1] rfl
                  · rw [show mGhW r iC iR Rw Cl (cN k) (i1 + 1) = (nI (mDrv (upd r (20 + (cN k)) (mGhO r (cN k))) Rw Cl (i1 / Cl)).2, nI (mDrv (upd r (20 + (cN k)) (mGhO r (cN k))) Rw Cl (i1 / Cl)).1) from by simp [mGhW, mGhC, c_5, c_21, Int32.not_lt.mpr c_21, c_44, Nat.not_le.mpr c_44, c_50, c_59, c_102, c_116, c_121]]; exact hP
                  · exact mD_any hD
                · refine lv_iconst (v := (-1)) hx hb dX5_ghostsBy_124 (by decide) ?_
                  refine lv_goto (tgt := 129) hx hb dX5_ghostsBy_125 (by decide) ?_
                  refine lv_iadd hx hb dX5_ghostsBy_129 ?_
                  refine lv_istore (lv' := [(4, .int ((mGh r Rw Cl (cN k) i1) + (-1))), (7, .int (zB (mWs (upd r (20 + (cN k)) (mGhO r (cN k))) Rw Cl i1))), (6, .int (zB (mWs r Rw Cl i1))), (5, .int (nI i1)), (3, .int (mGhO r (cN k))), (2, .int (r (20 + (cN k)))), (0, .ref (ad 0)), (1, .int k)]) hx hb dX5_ghostsBy_130 hl (by decide) rfl (fun ls hl => ?_)
                  refine ol_iinc (k := 3) (lv' := [(5, .int (nI (i1 + 1))), (4, .int ((mGh r Rw Cl (cN k) i1) + (-1))), (7, .int (zB (mWs (upd r (20 + (cN k)) (mGhO r (cN k))) Rw Cl i1))), (6, .int (zB (mWs r Rw Cl i1))), (3, .int (mGhO r (cN k))), (2, .int (r (20 + (cN k)))), (0, .ref (ad 0)), (1, .int k)]) hx hb 1 i1 dX5_ghostsBy_132 hl rfl (by decide) rfl (fun ls hl => ?_)
                  refine lv_goto (tgt := 38) hx hb dX5_ghostsBy_135 (by decide) ?_
                  refine ih1 H locs ls (by omega) ⟨?_, ?_, ?_, hS⟩
                  · rw [show mGh r Rw Cl (cN k) (i1 + 1) = (mGh r Rw Cl (cN k) i1) + (-1) from by simp [mGh, mGhC, mGhD, c_5, c_21, Int32.not_lt.mpr c_21, c_44, Nat.not_le.mpr c_44, c_50, c_59, c_102, c_116, c_121]]; exact lv_sub hl [0, 4, 5, 6, 7, 1] rfl
                  · rw [show mGhW r iC iR Rw Cl (cN k) (i1 + 1) = (nI (mDrv (upd r (20 + (cN k)) (mGhO r (cN k))) Rw Cl (i1 / Cl)).2, nI (mDrv (upd r (20 + (cN k)) (mGhO r (cN k))) Rw Cl (i1 / Cl)).1) from by simp [mGhW, mGhC, c_5, c_21, Int32.not_lt.mpr c_21, c_44, Nat.not_le.mpr c_44, c_50, c_59, c_102, c_116, c_121]]; exact hP
                  · exact mD_any hD
            · refine lv_iload hx hb dX5_ghostsBy_105 (lv_at hl 0 rfl) ?_
              refine ol_if_neB hx hb (mWs (upd r (20 + (cN k)) (mGhO r (cN k))) Rw Cl i1) (tgt := 114) dX5_ghostsBy_107 (by decide) (fun c_107 => ?_) (fun c_107 => ?_)
              · refine lv_iload hx hb dX5_ghostsBy_114 (lv_at hl 1 rfl) ?_
                refine ol_if_neB hx hb (mWs r Rw Cl i1) (tgt := 128) dX5_ghostsBy_116 (by decide) (fun c_116 => ?_) (fun c_116 => ?_)
                · refine lv_iconst (v := 0) hx hb dX5_ghostsBy_128 (by decide) ?_
                  refine lv_iadd hx hb dX5_ghostsBy_129 ?_
                  refine lv_istore (lv' := [(4, .int ((mGh r Rw Cl (cN k) i1) + 0)), (7, .int (zB (mWs (upd r (20 + (cN k)) (mGhO r (cN k))) Rw Cl i1))), (6, .int (zB (mWs r Rw Cl i1))), (5, .int (nI i1)), (3, .int (mGhO r (cN k))), (2, .int (r (20 + (cN k)))), (0, .ref (ad 0)), (1, .int k)]) hx hb dX5_ghostsBy_130 hl (by decide) rfl (fun ls hl => ?_)
                  refine ol_iinc (k := 3) (lv' := [(5, .int (nI (i1 + 1))), (4, .int ((mGh r Rw Cl (cN k) i1) + 0)), (7, .int (zB (mWs (upd r (20 + (cN k)) (mGhO r (cN k))) Rw Cl i1))), (6, .int (zB (mWs r Rw Cl i1))), (3, .int (mGhO r (cN k))), (2, .int (r (20 + (cN k)))), (0, .ref (ad 0)), (1, .int k)]) hx hb 1 i1 dX5_ghostsBy_132 hl rfl (by decide) rfl (fun ls hl => ?_)
                  refine lv_goto (tgt := 38) hx hb dX5_ghostsBy_135 (by decide) ?_
                  refine ih1 H locs ls (by omega) ⟨?_, ?_, ?_, hS⟩
                  · rw [show mGh r Rw Cl (cN k) (i1 + 1) = (mGh r Rw Cl (cN k) i1) + 0 from by simp [mGh, mGhC, mGhD, c_5, c_21, Int32.not_lt.mpr c_21, c_44, Nat.not_le.mpr c_44, c_50, c_59, c_102, c_107, c_116]]; exact lv_sub hl [0, 4, 5, 6, 7, 1] rfl
                  · rw [show mGhW r iC iR Rw Cl (cN k) (i1 + 1) = (nI (mDrv (upd r (20 + (cN k)) (mGhO r (cN k))) Rw Cl (i1 / Cl)).2, nI (mDrv (upd r (20 + (cN k)) (mGhO r (cN k))) Rw Cl (i1 / Cl)).1) from by simp [mGhW, mGhC, c_5, c_21, Int32.not_lt.mpr c_21, c_44, Nat.not_le.mpr c_44, c_50, c_59, c_102, c_107, c_116]]; exact hP
                  · exact mD_any hD
                · exact absurd (c_102.symm.trans c_116) (by decide)
              · refine lv_iconst (v := 1) hx hb dX5_ghostsBy_110 (by decide) ?_
                refine lv_goto (tgt := 129) hx hb dX5_ghostsBy_111 (by decide) ?_
                refine lv_iadd hx hb dX5_ghostsBy_129 ?_
                refine lv_istore (lv' := [(4, .int ((mGh r Rw Cl (cN k) i1) + 1)), (7, .int (zB (mWs (upd r (20 + (cN k)) (mGhO r (cN k))) Rw Cl i1))), (6, .int (zB (mWs r Rw Cl i1))), (5, .int (nI i1)), (3, .int (mGhO r (cN k))), (2, .int (r (20 + (cN k)))), (0, .ref (ad 0)), (1, .int k)]) hx hb dX5_ghostsBy_130 hl (by decide) rfl (fun ls hl => ?_)
                refine ol_iinc (k := 3) (lv' := [(5, .int (nI (i1 + 1))), (4, .int ((mGh r Rw Cl (cN k) i1) + 1)), (7, .int (zB (mWs (upd r (20 + (cN k)) (mGhO r (cN k))) Rw Cl i1))), (6, .int (zB (mWs r Rw Cl i1))), (3, .int (mGhO r (cN k))), (2, .int (r (20 + (cN k)))), (0, .ref (ad 0)), (1, .int k)]) hx hb 1 i1 dX5_ghostsBy_132 hl rfl (by decide) rfl (fun ls hl => ?_)
                refine lv_goto (tgt := 38) hx hb dX5_ghostsBy_135 (by decide) ?_
                refine ih1 H locs ls (by omega) ⟨?_, ?_, ?_, hS⟩
                · rw [show mGh r Rw Cl (cN k) (i1 + 1) = (mGh r Rw Cl (cN k) i1) + 1 from by simp [mGh, mGhC, mGhD, c_5, c_21, Int32.not_lt.mpr c_21, c_44, Nat.not_le.mpr c_44, c_50, c_59, c_102, c_107]]; exact lv_sub hl [0, 4, 5, 6, 7, 1] rfl
                · rw [show mGhW r iC iR Rw Cl (cN k) (i1 + 1) = (nI (mDrv (upd r (20 + (cN k)) (mGhO r (cN k))) Rw Cl (i1 / Cl)).2, nI (mDrv (upd r (20 + (cN k)) (mGhO r (cN k))) Rw Cl (i1 / Cl)).1) from by simp [mGhW, mGhC, c_5, c_21, Int32.not_lt.mpr c_21, c_44, Nat.not_le.mpr c_44, c_50, c_59, c_102, c_107]]; exact hP
                · exact mD_any hD
    · refine lv_iconst (v := 0) hx hb dX5_ghostsBy_24 (by decide) ?_
      refine lv_goto (tgt := 30) hx hb dX5_ghostsBy_25 (by decide) ?_
      refine lv_istore_n (lv' := [(3, .int 0), (2, .int (r (20 + (cN k)))), (0, .ref (ad 0)), (1, .int k)]) hx hb dX5_ghostsBy_30 rfl hl (by decide) rfl (fun ls hl => ?_)
      refine lv_bipush (v := 100) hx hb dX5_ghostsBy_31 (by decide) ?_
      refine lv_istore (lv' := [(4, .int 100), (3, .int 0), (2, .int (r (20 + (cN k)))), (0, .ref (ad 0)), (1, .int k)]) hx hb dX5_ghostsBy_33 hl (by decide) rfl (fun ls hl => ?_)
      refine lv_iconst (v := 0) hx hb dX5_ghostsBy_35 (by decide) ?_
      refine lv_istore (lv' := [(5, .int 0), (4, .int 100), (3, .int 0), (2, .int (r (20 + (cN k)))), (0, .ref (ad 0)), (1, .int k)]) hx hb dX5_ghostsBy_36 hl (by decide) rfl (fun ls hl => ?_)
      have ho : mGhO r (cN k) = 0 := by simp [mGhO, c_5, c_21, Int32.not_le.mp c_21]
      replace hl : lv_has ls 8 [(5, .int 0), (4, .int 100), (3, .int (mGhO r (cN k))), (2, .int (r (20 + (cN k)))), (0, .ref (ad 0)), (1, .int k)] := by rw [ho]; exact hl
      refine ol_for (P := fun i1 H locs ls => lv_has ls 8 [(5, .int (nI i1)), (3, .int (mGhO r (cN k))), (2, .int (r (20 + (cN k)))), (0, .ref (ad 0)), (1, .int k), (4, .int (mGh r Rw Cl (cN k) i1))] ∧ va_P G.1 cl0 (mW G ad iS iA iL iT ((mGhW r iC iR Rw Cl (cN k) i1).1) ((mGhW r iC iR Rw Cl (cN k) i1).2) r pr ar br f pf af bf tx) H ∧ va_D (va_A (mW G ad iS iA iL iT iC iR r pr ar br f pf af bf tx) s.heap.size) (mW G ad iS iA iL iT ((mGhW r iC iR Rw Cl (cN k) i1).1) ((mGhW r iC iR Rw Cl (cN k) i1).2) r pr ar br f pf af bf tx) ∧ va_S (va_A (mW G ad iS iA iL iT iC iR r pr ar br f pf af bf tx) s.heap.size) s.heap H locs) (Rw * Cl) 0 (by omega) ⟨lv_sub hl [0, 2, 3, 4, 5, 1] rfl, hP, hD, hS⟩ (fun i1 H locs ls hi1 hI ih1 => ?_)
      obtain ⟨hl, hP, hD, hS⟩ := hI
      refine lv_iload hx hb dX5_ghostsBy_38 (lv_at hl 0 rfl) ?_
      refine lv_aload_n hx hb dX5_ghostsBy_40 rfl (lv_at hl 3 rfl) ?_
      refine ol_cR (st1 := [.int (nI (Rw * Cl)), .int (nI i1)]) (va_runV (As := []) (rest := [.int (nI i1)]) ⟨hx, hb, hml, hown, hts⟩ (mr_keys l G ad iS iA iL iT ((mGhW r iC iR Rw Cl (cN k) i1).1) ((mGhW r iC iR Rw Cl (cN k) i1).2) r pr ar br f pf af bf tx Rw Cl hg) (cwV 0 hts (lw_V q1213 q1215 qs25 q73 q1216) rfl rfl rfl (by decide +kernel) ⟨Nat.le_of_ble_eq_true rfl, Nat.le_of_ble_eq_true rfl⟩) (oPc.preV hE (hE.recv (ci := 12) (hP 0 _ rfl) rfl) hP) rfl rfl hl.1 rfl (lv_room (Nat.le_of_ble_eq_true rfl)) dX5_ghostsBy_41 ⟨Nat.le_of_ble_eq_true rfl, Nat.le_of_ble_eq_true rfl⟩) rfl ?_
      refine ol_icmp_ge hx hb i1 (Rw * Cl) (by omega) (by omega) (tgt := 138) dX5_ghostsBy_44 (by decide) (fun c_44 => ?_) (fun c_44 => ?_)
      · have ei1 : Rw * Cl = i1 := by omega
        subst ei1
        refine lv_iload hx hb dX5_ghostsBy_138 (lv_at hl 5 rfl) ?_
        exact ol_iretE hx hb hr hlocks ⟨congrArg (fun z => some (Value.int z)) (by simp [zB, c_5, c_21, Int32.not_le.mp c_21, c_44, Nat.not_lt.mpr c_44]), (by simp [zB, c_5, c_21, Int32.not_le.mp c_21, c_44, Nat.not_lt.mpr c_44])⟩ hP hD hS dX5_ghostsBy_140
      · refine lv_iload hx hb dX5_ghostsBy_47 (lv_at hl 0 rfl) ?_
        refine lv_iload_n hx hb dX5_ghostsBy_49 rfl (lv_at hl 4 rfl) ?_
        refine ol_top (y := nI (cN k)) hk2 ?_
        refine ol_icmp_eq hx hb i1 (cN k) (by omega) (by omega) (tgt := 132) dX5_ghostsBy_50 (by decide) (fun c_50 => ?_) (fun c_50 => ?_)
        · refine ol_iinc (k := 0) (lv' := [(5, .int (nI (i1 + 1))), (3, .int (mGhO r (cN k))), (2, .int (r (20 + (cN k)))), (0, .ref (ad 0)), (1, .int k), (4, .int (mGh r Rw Cl (cN k) i1))]) hx hb 1 i1 dX5_ghostsBy_132 hl rfl (by decide) rfl (fun ls hl => ?_)
          refine lv_goto (tgt := 38) hx hb dX5_ghostsBy_135 (by decide) ?_
          refine ih1 H locs ls (by omega) ⟨?_, ?_, ?_, hS⟩
          · rw [show mGh r Rw Cl (cN k) (i1 + 1) = mGh r Rw Cl (cN k) i1 from by simp [mGh, mGhC, mGhD, c_5, c_21, Int32.not_le.mp c_21, c_44, Nat.not_le.mpr c_44, c_50]]; exact lv_sub hl [0, 1, 2, 3, 4, 5] rfl
          · rw [show mGhW r iC iR Rw Cl (cN k) (i1 + 1) = ((mGhW r iC iR Rw Cl (cN k) i1).1, (mGhW r iC iR Rw Cl (cN k) i1).2) from by simp [mGhW, mGhC, c_5, c_21, Int32.not_le.mp c_21, c_44, Nat.not_le.mpr c_44, c_50]]; exact hP
          · exact mD_any hD
        · refine lv_aload_n hx hb dX5_ghostsBy_53 rfl (lv_at hl 3 rfl) ?_
          refine lv_iload hx hb dX5_ghostsBy_54 (lv_at hl 0 rfl) ?_
          refine ol_cR (st1 := [.int (zB (dn r i1))]) (va_runV (As := [.int (nI i1)]) (rest := []) ⟨hx, hb, hml, hown, hts⟩ (mr_isDown l G ad iS iA iL iT ((mGhW r iC iR Rw Cl (cN k) i1).1) ((mGhW r iC iR Rw Cl (cN k) i1).2) r pr ar br f pf af bf tx i1 (by omega)) (cwV 1 hts (lw_V q1217 q1219 qs26 q73 q1220) rfl rfl rfl (by decide +kernel) ⟨Nat.le_of_ble_eq_true rfl, Nat.le_of_ble_eq_true rfl⟩) (oPc.preV hE (hE.recv (ci := 12) (hP 0 _ rfl) rfl) hP) rfl rfl hl.1 rfl (lv_room (Nat.le_of_ble_eq_true rfl)) dX5_ghostsBy_56 ⟨Nat.le_of_ble_eq_true rfl, Nat.le_of_ble_eq_true rfl⟩) rfl ?_
          refine ol_if_neB hx hb (dn r i1) (tgt := 132) dX5_ghostsBy_59 (by decide) (fun c_59 => ?_) (fun c_59 => ?_)
          · refine ol_iinc (k := 0) (lv' := [(5, .int (nI (i1 + 1))), (3, .int (mGhO r (cN k))), (2, .int (r (20 + (cN k)))), (0, .ref (ad 0)), (1, .int k), (4, .int (mGh r Rw Cl (cN k) i1))]) hx hb 1 i1 dX5_ghostsBy_132 hl rfl (by decide) rfl (fun ls hl => ?_)
            refine lv_goto (tgt := 38) hx hb dX5_ghostsBy_135 (by decide) ?_
            refine ih1 H locs ls (by omega) ⟨?_, ?_, ?_, hS⟩
            · rw [show mGh r Rw Cl (cN k) (i1 + 1) = mGh r Rw Cl (cN k) i1 from by simp [mGh, mGhC, mGhD, c_5, c_21, Int32.not_le.mp c_21, c_44, Nat.not_le.mpr c_44, c_50, c_59]]; exact lv_sub hl [0, 1, 2, 3, 4, 5] rfl
            · rw [show mGhW r iC iR Rw Cl (cN k) (i1 + 1) = ((mGhW r iC iR Rw Cl (cN k) i1).1, (mGhW r iC iR Rw Cl (cN k) i1).2) from by simp [mGhW, mGhC, c_5, c_21, Int32.not_le.mp c_21, c_44, Nat.not_le.mpr c_44, c_50, c_59]]; exact hP
            · exact mD_any hD
          · refine lv_aload_n hx hb dX5_ghostsBy_62 rfl (lv_at hl 3 rfl) ?_
            refine lv_iload hx hb dX5_ghostsBy_63 (lv_at hl 0 rfl) ?_
            refine ol_cM (st1 := [.int (zB (mWs r Rw Cl i1))]) (va_runV (As := [.int (nI i1)]) (rest := []) ⟨hx, hb, hml, hown, hts⟩ (mm_wouldSense l G ad iS iA iL iT ((mGhW r iC iR Rw Cl (cN k) i1).1) ((mGhW r iC iR Rw Cl (cN k) i1).2) r pr ar br f pf af bf tx i1 Rw Cl hg (by omega) H.size) (cwV 1 hts (lw_V q1387 q1389 qs53 q73 q1390) rfl rfl rfl (by decide +kernel) ⟨Nat.le_of_ble_eq_true rfl, Nat.le_of_ble_eq_true rfl⟩) (oPc.preV hE (hE.recv (ci := 12) (hP 0 _ rfl) rfl) ⟨rfl, hP, oD_weak hD (fun _ _ => trivial), trivial⟩) rfl rfl hl.1 rfl (lv_room (Nat.le_of_ble_eq_true rfl)) dX5_ghostsBy_65 ⟨Nat.le_of_ble_eq_true rfl, Nat.le_of_ble_eq_true rfl⟩) hP hD hS hA rfl (fun H locs hP hD hS => ?_)
            refine lv_istore (lv' := [(6, .int (zB (mWs r Rw Cl i1))), (5, .int (nI i1)), (3, .int (mGhO r (cN k))), (2, .int (r (20 + (cN k)))), (0, .ref (ad 0)), (1, .int k), (4, .int (mGh r Rw Cl (cN k) i1))]) hx hb dX5_ghostsBy_68 hl (by decide) rfl (fun ls hl => ?_)
            refine lv_aload_n hx hb dX5_ghostsBy_70 rfl (lv_at hl 4 rfl) ?_
            refine va_get (D := G.1) (ci := 12) (v := .ref (ad 1)) (C := RX5) (T := TX5) (N := 15) hx hb hts in_X5 hown hE.1 hP 0 rfl rfl 0 (by decide) (hts _ q1135) (fun _ h9 => h9) rfl dX5_ghostsBy_71 ?_
            refine lv_bipush (v := 20) hx hb dX5_ghostsBy_74 (by decide) ?_
            refine lv_iload_n hx hb dX5_ghostsBy_76 rfl (lv_at hl 5 rfl) ?_
            refine ol_top (y := nI (cN k)) hk2 ?_
            refine ol_iadd hx hb 20 (cN k) dX5_ghostsBy_77 ?_
            refine lv_iload_n hx hb dX5_ghostsBy_78 rfl (lv_at hl 2 rfl) ?_
            refine ol_iast hx hb hE.1 hP hD hS 1 0 rfl rfl (20 + (cN k)) (by omega) (by decide) dX5_ghostsBy_79 (fun H locs hP hD hS => ?_)
            replace hP : va_P G.1 cl0 (mW G ad iS iA iL iT (nI (mDrv r Rw Cl (i1 / Cl)).2) (nI (mDrv r Rw Cl (i1 / Cl)).1) (upd r (20 + (cN k)) (mGhO r (cN k))) pr ar br f pf af bf tx) H := hP
            replace hD : va_D (va_A (mW G ad iS iA iL iT iC iR r pr ar br f pf af bf tx) s.heap.size) (mW G ad iS iA iL iT (nI (mDrv r Rw Cl (i1 / Cl)).2) (nI (mDrv r Rw Cl (i1 / Cl)).1) (upd r (20 + (cN k)) (mGhO r (cN k))) pr ar br f pf af bf tx) := hD
            refine lv_aload_n hx hb dX5_ghostsBy_80 rfl (lv_at hl 4 rfl) ?_
            refine lv_iload hx hb dX5_ghostsBy_81 (lv_at hl 1 rfl) ?_
            refine ol_cM (st1 := [.int (zB (mWs (upd r (20 + (cN k)) (mGhO r (cN k))) Rw Cl i1))]) (va_runV (As := [.int (nI i1)]) (rest := []) ⟨hx, hb, hml, hown, hts⟩ (mm_wouldSense l G ad iS iA iL iT (nI (mDrv r Rw Cl (i1 / Cl)).2) (nI (mDrv r Rw Cl (i1 / Cl)).1) (upd r (20 + (cN k)) (mGhO r (cN k))) pr ar br f pf af bf tx i1 Rw Cl (mG_upd (by omega) hg) (by omega) H.size) (cwV 1 hts (lw_V q1387 q1389 qs53 q73 q1390) rfl rfl rfl (by decide +kernel) ⟨Nat.le_of_ble_eq_true rfl, Nat.le_of_ble_eq_true rfl⟩) (oPc.preV hE (hE.recv (ci := 12) (hP 0 _ rfl) rfl) ⟨rfl, hP, oD_weak hD (fun _ _ => trivial), trivial⟩) rfl rfl hl.1 rfl (lv_room (Nat.le_of_ble_eq_true rfl)) dX5_ghostsBy_83 ⟨Nat.le_of_ble_eq_true rfl, Nat.le_of_ble_eq_true rfl⟩) hP hD hS hA rfl (fun H locs hP hD hS => ?_)
            refine lv_istore (lv' := [(7, .int (zB (mWs (upd r (20 + (cN k)) (mGhO r (cN k))) Rw Cl i1))), (6, .int (zB (mWs r Rw Cl i1))), (5, .int (nI i1)), (3, .int (mGhO r (cN k))), (2, .int (r (20 + (cN k)))), (0, .ref (ad 0)), (1, .int k), (4, .int (mGh r Rw Cl (cN k) i1))]) hx hb dX5_ghostsBy_86 hl (by decide) rfl (fun ls hl => ?_)
            refine lv_aload_n hx hb dX5_ghostsBy_88 rfl (lv_at hl 5 rfl) ?_
            refine va_get (D := G.1) (ci := 12) (v := .ref (ad 1)) (C := RX5) (T := TX5) (N := 15) hx hb hts in_X5 hown hE.1 hP 0 rfl rfl 0 (by decide) (hts _ q1135) (fun _ h9 => h9) rfl dX5_ghostsBy_89 ?_
            refine lv_bipush (v := 20) hx hb dX5_ghostsBy_92 (by decide) ?_
            refine lv_iload_n hx hb dX5_ghostsBy_94 rfl (lv_at hl 6 rfl) ?_
            refine ol_top (y := nI (cN k)) hk2 ?_
            refine ol_iadd hx hb 20 (cN k) dX5_ghostsBy_95 ?_
            refine lv_iload_n hx hb dX5_ghostsBy_96 rfl (lv_at hl 4 rfl) ?_
            refine ol_iast hx hb hE.1 hP hD hS 1 0 rfl rfl (20 + (cN k)) (by omega) (by decide) dX5_ghostsBy_97 (fun H locs hP hD hS => ?_)
            replace hP : va_P G.1 cl0 (mW G ad iS iA iL iT (nI (mDrv (upd r (20 + (cN k)) (mGhO r (cN k))) Rw Cl (i1 / Cl)).2) (nI (mDrv (upd r (20 + (cN k)) (mGhO r (cN k))) Rw Cl (i1 / Cl)).1) (upd (upd r (20 + (cN k)) (mGhO r (cN k))) (20 + (cN k)) (r (20 + (cN k)))) pr ar br f pf af bf tx) H := hP
            replace hD : va_D (va_A (mW G ad iS iA iL iT iC iR r pr ar br f pf af bf tx) s.heap.size) (mW G ad iS iA iL iT (nI (mDrv (upd r (20 + (cN k)) (mGhO r (cN k))) Rw Cl (i1 / Cl)).2) (nI (mDrv (upd r (20 + (cN k)) (mGhO r (cN k))) Rw Cl (i1 / Cl)).1) (upd (upd r (20 + (cN k)) (mGhO r (cN k))) (20 + (cN k)) (r (20 + (cN k)))) pr ar br f pf af bf tx) := hD
            rw [upd_back] at hP hD
            refine lv_iload hx hb dX5_ghostsBy_98 (lv_at hl 7 rfl) ?_
            refine lv_iload hx hb dX5_ghostsBy_100 (lv_at hl 1 rfl) ?_
            refine ol_if_eqB hx hb (mWs r Rw Cl i1) (tgt := 114) dX5_ghostsBy_102 (by decide) (fun c_102 => ?_) (fun c_102 => ?_)
            · refine lv_iload hx hb dX5_ghostsBy_114 (lv_at hl 1 rfl) ?_
              refine ol_if_neB hx hb (mWs r Rw Cl i1) (tgt := 128) dX5_ghostsBy_116 (by decide) (fun c_116 => ?_) (fun c_116 => ?_)
              · exact absurd (c_116.symm.trans c_102) (by decide)
              · refine lv_iload hx hb dX5_ghostsBy_119 (lv_at hl 0 rfl) ?_
                refine ol_if_eqB hx hb (mWs (upd r (20 + (cN k)) (mGhO r (cN k))) Rw Cl i1) (tgt := 128) dX5_ghostsBy_121 (by decide) (fun c_121 => ?_) (fun c_121 => ?_)
                · refine lv_iconst (v := 0) hx hb dX5_ghostsBy_128 (by decide) ?_
                  refine lv_iadd hx hb dX5_ghostsBy_129 ?_
                  refine lv_istore (lv' := [(4, .int ((mGh r Rw Cl (cN k) i1) + 0)), (7, .int (zB (mWs (upd r (20 + (cN k)) (mGhO r (cN k))) Rw Cl i1))), (6, .int (zB (mWs r Rw Cl i1))), (5, .int (nI i1)), (3, .int (mGhO r (cN k))), (2, .int (r (20 + (cN k)))), (0, .ref (ad 0)), (1, .int k)]) hx hb dX5_ghostsBy_130 hl (by decide) rfl (fun ls hl => ?_)
                  refine ol_iinc (k := 3) (lv' := [(5, .int (nI (i1 + 1))), (4, .int ((mGh r Rw Cl (cN k) i1) + 0)), (7, .int (zB (mWs (upd r (20 + (cN k)) (mGhO r (cN k))) Rw Cl i1))), (6, .int (zB (mWs r Rw Cl i1))), (3, .int (mGhO r (cN k))), (2, .int (r (20 + (cN k)))), (0, .ref (ad 0)), (1, .int k)]) hx hb 1 i1 dX5_ghostsBy_132 hl rfl (by decide) rfl (fun ls hl => ?_)
                  refine lv_goto (tgt := 38) hx hb dX5_ghostsBy_135 (by decide) ?_
                  refine ih1 H locs ls (by omega) ⟨?_, ?_, ?_, hS⟩
                  · rw [show mGh r Rw Cl (cN k) (i1 + 1) = (mGh r Rw Cl (cN k) i1) + 0 from by simp [mGh, mGhC, mGhD, c_5, c_21, Int32.not_le.mp c_21, c_44, Nat.not_le.mpr c_44, c_50, c_59, c_102, c_116, c_121]]; exact lv_sub hl [0, 4, 5, 6, 7, 1] rfl
                  · rw [show mGhW r iC iR Rw Cl (cN k) (i1 + 1) = (nI (mDrv (upd r (20 + (cN k)) (mGhO r (cN k))) Rw Cl (i1 / Cl)).2, nI (mDrv (upd r (20 + (cN k)) (mGhO r (cN k))) Rw Cl (i1 / Cl)).1) from by simp [mGhW, mGhC, c_5, c_21, Int32.not_le.mp c_21, c_44, Nat.not_le.mpr c_44, c_50, c_59, c_102, c_116, c_121]]; exact hP
                  · exact mD_any hD
                · refine lv_iconst (v := (-1)) hx hb dX5_ghostsBy_124 (by decide) ?_
                  refine lv_goto (tgt := 129) hx hb dX5_ghostsBy_125 (by decide) ?_
                  refine lv_iadd hx hb dX5_ghostsBy_129 ?_
                  refine lv_istore (lv' := [(4, .int ((mGh r Rw Cl (cN k) i1) + (-1))), (7, .int (zB (mWs (upd r (20 + (cN k)) (mGhO r (cN k))) Rw Cl i1))), (6, .int (zB (mWs r Rw Cl i1))), (5, .int (nI i1)), (3, .int (mGhO r (cN k))), (2, .int (r (20 + (cN k)))), (0, .ref (ad 0)), (1, .int k)]) hx hb dX5_ghostsBy_130 hl (by decide) rfl (fun ls hl => ?_)
                  refine ol_iinc (k := 3) (lv' := [(5, .int (nI (i1 + 1))), (4, .int ((mGh r Rw Cl (cN k) i1) + (-1))), (7, .int (zB (mWs (upd r (20 + (cN k)) (mGhO r (cN k))) Rw Cl i1))), (6, .int (zB (mWs r Rw Cl i1))), (3, .int (mGhO r (cN k))), (2, .int (r (20 + (cN k)))), (0, .ref (ad 0)), (1, .int k)]) hx hb 1 i1 dX5_ghostsBy_132 hl rfl (by decide) rfl (fun ls hl => ?_)
                  refine lv_goto (tgt := 38) hx hb dX5_ghostsBy_135 (by decide) ?_
                  refine ih1 H locs ls (by omega) ⟨?_, ?_, ?_, hS⟩
                  · rw [show mGh r Rw Cl (cN k) (i1 + 1) = (mGh r Rw Cl (cN k) i1) + (-1) from by simp [mGh, mGhC, mGhD, c_5, c_21, Int32.not_le.mp c_21, c_44, Nat.not_le.mpr c_44, c_50, c_59, c_102, c_116, c_121]]; exact lv_sub hl [0, 4, 5, 6, 7, 1] rfl
                  · rw [show mGhW r iC iR Rw Cl (cN k) (i1 + 1) = (nI (mDrv (upd r (20 + (cN k)) (mGhO r (cN k))) Rw Cl (i1 / Cl)).2, nI (mDrv (upd r (20 + (cN k)) (mGhO r (cN k))) Rw Cl (i1 / Cl)).1) from by simp [mGhW, mGhC, c_5, c_21, Int32.not_le.mp c_21, c_44, Nat.not_le.mpr c_44, c_50, c_59, c_102, c_116, c_121]]; exact hP
                  · exact mD_any hD
            · refine lv_iload hx hb dX5_ghostsBy_105 (lv_at hl 0 rfl) ?_
              refine ol_if_neB hx hb (mWs (upd r (20 + (cN k)) (mGhO r (cN k))) Rw Cl i1) (tgt := 114) dX5_ghostsBy_107 (by decide) (fun c_107 => ?_) (fun c_107 => ?_)
              · refine lv_iload hx hb dX5_ghostsBy_114 (lv_at hl 1 rfl) ?_
                refine ol_if_neB hx hb (mWs r Rw Cl i1) (tgt := 128) dX5_ghostsBy_116 (by decide) (fun c_116 => ?_) (fun c_116 => ?_)
                · refine lv_iconst (v := 0) hx hb dX5_ghostsBy_128 (by decide) ?_
                  refine lv_iadd hx hb dX5_ghostsBy_129 ?_
                  refine lv_istore (lv' := [(4, .int ((mGh r Rw Cl (cN k) i1) + 0)), (7, .int (zB (mWs (upd r (20 + (cN k)) (mGhO r (cN k))) Rw Cl i1))), (6, .int (zB (mWs r Rw Cl i1))), (5, .int (nI i1)), (3, .int (mGhO r (cN k))), (2, .int (r (20 + (cN k)))), (0, .ref (ad 0)), (1, .int k)]) hx hb dX5_ghostsBy_130 hl (by decide) rfl (fun ls hl => ?_)
                  refine ol_iinc (k := 3) (lv' := [(5, .int (nI (i1 + 1))), (4, .int ((mGh r Rw Cl (cN k) i1) + 0)), (7, .int (zB (mWs (upd r (20 + (cN k)) (mGhO r (cN k))) Rw Cl i1))), (6, .int (zB (mWs r Rw Cl i1))), (3, .int (mGhO r (cN k))), (2, .int (r (20 + (cN k)))), (0, .ref (ad 0)), (1, .int k)]) hx hb 1 i1 dX5_ghostsBy_132 hl rfl (by decide) rfl (fun ls hl => ?_)
                  refine lv_goto (tgt := 38) hx hb dX5_ghostsBy_135 (by decide) ?_
                  refine ih1 H locs ls (by omega) ⟨?_, ?_, ?_, hS⟩
                  · rw [show mGh r Rw Cl (cN k) (i1 + 1) = (mGh r Rw Cl (cN k) i1) + 0 from by simp [mGh, mGhC, mGhD, c_5, c_21, Int32.not_le.mp c_21, c_44, Nat.not_le.mpr c_44, c_50, c_59, c_102, c_107, c_116]]; exact lv_sub hl [0, 4, 5, 6, 7, 1] rfl
                  · rw [show mGhW r iC iR Rw Cl (cN k) (i1 + 1) = (nI (mDrv (upd r (20 + (cN k)) (mGhO r (cN k))) Rw Cl (i1 / Cl)).2, nI (mDrv (upd r (20 + (cN k)) (mGhO r (cN k))) Rw Cl (i1 / Cl)).1) from by simp [mGhW, mGhC, c_5, c_21, Int32.not_le.mp c_21, c_44, Nat.not_le.mpr c_44, c_50, c_59, c_102, c_107, c_116]]; exact hP
                  · exact mD_any hD
                · exact absurd (c_102.symm.trans c_116) (by decide)
              · refine lv_iconst (v := 1) hx hb dX5_ghostsBy_110 (by decide) ?_
                refine lv_goto (tgt := 129) hx hb dX5_ghostsBy_111 (by decide) ?_
                refine lv_iadd hx hb dX5_ghostsBy_129 ?_
                refine lv_istore (lv' := [(4, .int ((mGh r Rw Cl (cN k) i1) + 1)), (7, .int (zB (mWs (upd r (20 + (cN k)) (mGhO r (cN k))) Rw Cl i1))), (6, .int (zB (mWs r Rw Cl i1))), (5, .int (nI i1)), (3, .int (mGhO r (cN k))), (2, .int (r (20 + (cN k)))), (0, .ref (ad 0)), (1, .int k)]) hx hb dX5_ghostsBy_130 hl (by decide) rfl (fun ls hl => ?_)
                refine ol_iinc (k := 3) (lv' := [(5, .int (nI (i1 + 1))), (4, .int ((mGh r Rw Cl (cN k) i1) + 1)), (7, .int (zB (mWs (upd r (20 + (cN k)) (mGhO r (cN k))) Rw Cl i1))), (6, .int (zB (mWs r Rw Cl i1))), (3, .int (mGhO r (cN k))), (2, .int (r (20 + (cN k)))), (0, .ref (ad 0)), (1, .int k)]) hx hb 1 i1 dX5_ghostsBy_132 hl rfl (by decide) rfl (fun ls hl => ?_)
                refine lv_goto (tgt := 38) hx hb dX5_ghostsBy_135 (by decide) ?_
                refine ih1 H locs ls (by omega) ⟨?_, ?_, ?_, hS⟩
                · rw [show mGh r Rw Cl (cN k) (i1 + 1) = (mGh r Rw Cl (cN k) i1) + 1 from by simp [mGh, mGhC, mGhD, c_5, c_21, Int32.not_le.mp c_21, c_44, Nat.not_le.mpr c_44, c_50, c_59, c_102, c_107]]; exact lv_sub hl [0, 4, 5, 6, 7, 1] rfl
                · rw [show mGhW r iC iR Rw Cl (cN k) (i1 + 1) = (nI (mDrv (upd r (20 + (cN k)) (mGhO r (cN k))) Rw Cl (i1 / Cl)).2, nI (mDrv (upd r (20 + (cN k)) (mGhO r (cN k))) Rw Cl (i1 / Cl)).1) from by simp [mGhW, mGhC, c_5, c_21, Int32.not_le.mp c_21, c_44, Nat.not_le.mpr c_44, c_50, c_59, c_102, c_107]]; exact hP
                · exact mD_any hD
  · refine lv_iconst (v := (-1)) hx hb dX5_ghostsBy_8 (by decide) ?_
    exact ol_iretE hx hb hr hlocks ⟨congrArg (fun z => some (Value.int z)) (by simp [zB, c_5]), (by simp [zB, c_5])⟩ hP hD hS dX5_ghostsBy_9
set_option maxHeartbeats 4000000 in
set_option maxRecDepth 100000 in
theorem mm_settle (l : Launch) (G : oG) (ad : Nat → Nat) (st : Nat) (iA : Int32) (iL : Int32) (iT : Int32) (iC : Int32) (iR : Int32) (r : Nat → Int32) (pr : Nat → Int32) (ar : Nat → Int32) (br : Nat → Int32) (f : Nat → UInt32) (pf : Nat → UInt32) (af : Nat → UInt32) (bf : Nat → UInt32) (tx : Nat → Int32) (q : Int32) (x : Int32) (Rw Cl : Nat) (hg : mG r Rw Cl) (hst : st ≤ 4) (hdn : ¬ r 16 < 0) (hd20 : cN (r 16) ≤ 20) (hnum : ∀ j, j < cN (r 16) → ¬ r (404 + 7 * j + 6) < 0) (hm : mFo f) (hrt : fR (f 6)) (hty : mTy r) (sz : Nat) : Met l yX5_settle (ws_ yX5_settle cX5_settle 4 (some .int)) ({ frames := 3, cells := 0, slots := 0, locals := 67 }) (oPc G [.ref (ad 0), .int q, .int x] (oPE G (mW G ad (nI st) iA iL iT iC iR r pr ar br f pf af bf tx) sz (fun _ => True))) (oE G (fun v_ W_ => v_ = some (.int (mSeV r (Rw * Cl) q x)) ∧ W_ = mW G ad (nI (if mSeN r q x = true then st else (mRecN st))) iA iL iT iC iR (if mSeN r q x = true then r else mSeR r (Rw * Cl) (404 + 7 * cN q) x) (if mSeN r q x = true then pr else mRecP pr (mCp r br 592) st) ar (if mSeN r q x = true then br else mCp r br 592) (if mSeN r q x = true then f else mSeF r f (404 + 7 * cN q) x) (if mSeN r q x = true then pf else mRecF pf (mCf f bf 7) st) af (if mSeN r q x = true then bf else mCf f bf 7) tx) (mW G ad (nI st) iA iL iT iC iR r pr ar br f pf af bf tx) sz) 0 0 (va_A (mW G ad (nI st) iA iL iT iC iR r pr ar br f pf af bf tx) sz) := by
  refine Met.ofW (cc := cX5_settle) (maxL := 4) (ret := (some .int)) (by decide) rfl ?_
  intro p e s m args below meth c s₁ B hml hv
  obtain ⟨rfl, ⟨hsz, hP, hD0, hX⟩, hE⟩ := hv
  have hx := B.exec
  have hb := B.bytes
  have hr := B.returns
  have hts := atoms_spec (ws := ws_ yX5_settle cX5_settle 4 (some .int)) B.pre
  have hts : ∀ w ∈ lw_all, w.before _ s = true := fun w h => hts w (List.mem_cons_of_mem _ h)
  have hown : s.vm.findClass RX5 = some m.cls := findClass_of_methodNamed B.named
  have hlocks := B.notSynchronized
  subst hsz
  have hD := hD0.self (sz := s.heap.size)
  have hA : ∀ q : Nat, s.heap.size ≤ q → va_A (mW G ad (nI st) iA iL iT iC iR r pr ar br f pf af bf tx) s.heap.size q := fun q h => Or.inr h
  have hl := lv_entry ([.ref (ad 0), .int q, .int x]) (n := 4) (Nat.le_of_ble_eq_true rfl)
  rw [lg_entry_eq]
  generalize (lg_sl ([.ref (ad 0), .int q, .int x]) ++ List.replicate (4 - (lg_sl ([.ref (ad 0), .int q, .int x])).length) Slot.unset).toArray = ls at hl ⊢
  replace hl : lv_has ls 4 [(0, .ref (ad 0)), (1, .int q), (2, .int x)] := hl
  refine ol_start (A := va_A (mW G ad (nI st) iA iL iT iC iR r pr ar br f pf af bf tx) s.heap.size) (fun H locs hH hS => ?_)
  rw [← hH] at hP
  clear hH
  have hgn := mG_n hg
  have hg' := hg
  obtain ⟨hg0, hg1, hg2, hg3, hg4, hg5⟩ := hg'
  refine lv_aload_n hx hb dX5_settle_0 rfl (lv_at hl 0 rfl) ?_
  refine lv_iload_n hx hb dX5_settle_1 rfl (lv_at hl 1 rfl) ?_
  refine ol_cR (st1 := [.int (zB (!inR q 0 (r 16 - 1)))]) (va_runV (As := [.int q]) (rest := []) ⟨hx, hb, hml, hown, hts⟩ (mr_noDispute l G ad (nI st) iA iL iT iC iR r pr ar br f pf af bf tx q ) (cwV 1 hts (lw_V q1347 q1349 qs47 q73 q1350) rfl rfl rfl (by decide +kernel) ⟨Nat.le_of_ble_eq_true rfl, Nat.le_of_ble_eq_true rfl⟩) (oPc.preV hE (hE.recv (ci := 12) (hP 0 _ rfl) rfl) hP) rfl rfl hl.1 rfl (lv_room (Nat.le_of_ble_eq_true rfl)) dX5_settle_2 ⟨Nat.le_of_ble_eq_true rfl, Nat.le_of_ble_eq_true rfl⟩) rfl ?_
  refine ol_if_eqB hx hb (!inR q 0 (r 16 - 1)) (tgt := 10) dX5_settle_5 (by decide) (fun c_5 => ?_) (fun c_5 => ?_)
  · obtain ⟨hq2, hq1⟩ := noD_f hdn c_5
    refine lv_iload_n hx hb dX5_settle_10 rfl (lv_at hl 2 rfl) ?_
    refine lv_iconst (v := 0) hx hb dX5_settle_11 (by decide) ?_
    refine lv_iconst (v := 2) hx hb dX5_settle_12 (by decide) ?_
    refine ol_cR (st1 := [.int (zB (inR x 0 2))]) (va_runS (As := [.int x, .int 0, .int 2]) (rest := []) ⟨hx, hb, hml, hown, hts⟩ (mr_in l G x 0 2 ) (va_cwS 3 hts (lw_S q1210 q1211 q73 q1212) rfl rfl rfl (by decide +kernel) ⟨Nat.le_of_ble_eq_true rfl, Nat.le_of_ble_eq_true rfl⟩) (oPc.preS hE trivial) rfl rfl hl.1 rfl (lv_room (Nat.le_of_ble_eq_true rfl)) dX5_settle_13 ⟨Nat.le_of_ble_eq_true rfl, Nat.le_of_ble_eq_true rfl⟩) rfl ?_
    refine ol_if_neB hx hb (inR x 0 2) (tgt := 22) dX5_settle_16 (by decide) (fun c_16 => ?_) (fun c_16 => ?_)
    · obtain ⟨hx2, hx1⟩ := inR_n (n := 3) (by decide) (show inR x 0 2 = true from c_16)
      have hx0 : ¬ x < 0 := by rw [hx1]; exact nI_pos (by omega)
      obtain ⟨hu1, hu2⟩ := nn_of (hnum _ hq2)
      refine lv_sipush (v := 404) hx hb dX5_settle_22 (by decide) ?_
      refine lv_bipush (v := 7) hx hb dX5_settle_25 (by decide) ?_
      refine lv_iload_n hx hb dX5_settle_27 rfl (lv_at hl 1 rfl) ?_
      refine ol_top (y := nI (cN q)) hq1 ?_
      refine ol_imul hx hb 7 (cN q) dX5_settle_28 ?_
      refine ol_iadd hx hb 404 (7 * (cN q)) dX5_settle_29 ?_
      refine lv_istore_n (lv' := [(3, .int (nI (404 + (7 * (cN q))))), (0, .ref (ad 0)), (1, .int q), (2, .int x)]) hx hb dX5_settle_30 rfl hl (by decide) rfl (fun ls hl => ?_)
      refine lv_aload_n hx hb dX5_settle_31 rfl (lv_at hl 1 rfl) ?_
      refine va_get (D := G.1) (ci := 12) (v := .ref (ad 1)) (C := RX5) (T := TX5) (N := 15) hx hb hts in_X5 hown hE.1 hP 0 rfl rfl 0 (by decide) (hts _ q1135) (fun _ h9 => h9) rfl dX5_settle_32 ?_
      refine lv_iload_n hx hb dX5_settle_35 rfl (lv_at hl 0 rfl) ?_
      refine lv_iconst (v := 3) hx hb dX5_settle_36 (by decide) ?_
      refine ol_iadd hx hb (404 + (7 * (cN q))) 3 dX5_settle_37 ?_
      refine ol_iald hx hb hE.1 hP 1 0 rfl rfl (404 + (7 * (cN q)) + 3) (by omega) (by decide) dX5_settle_38 ?_
      refine lv_if_lt (tgt := 45) hx hb dX5_settle_39 (by decide) (fun c_39 => ?_) (fun c_39 => ?_)
      · refine lv_aload_n hx hb dX5_settle_45 rfl (lv_at hl 1 rfl) ?_
        refine ol_cM (st1 := []) (va_runV (As := []) (rest := []) ⟨hx, hb, hml, hown, hts⟩ (mm_begin l G ad st iA iL iT iC iR r pr ar br f pf af bf tx (by omega) H.size) (cwV 0 hts (lw_V q1194 q1196 qs22 q73 q1197) rfl rfl rfl (by decide +kernel) ⟨Nat.le_of_ble_eq_true rfl, Nat.le_of_ble_eq_true rfl⟩) (oPc.preV hE (hE.recv (ci := 12) (hP 0 _ rfl) rfl) ⟨rfl, hP, oD_weak hD (fun _ _ => trivial), trivial⟩) rfl rfl hl.1 rfl (lv_room (Nat.le_of_ble_eq_true rfl)) dX5_settle_46 ⟨Nat.le_of_ble_eq_true rfl, Nat.le_of_ble_eq_true rfl⟩) hP hD hS hA rfl (fun H locs hP hD hS => ?_)
        refine lv_aload_n hx hb dX5_settle_49 rfl (lv_at hl 1 rfl) ?_
        refine va_get (D := G.1) (ci := 12) (v := .ref (ad 1)) (C := RX5) (T := TX5) (N := 15) hx hb hts in_X5 hown hE.1 hP 0 rfl rfl 0 (by decide) (hts _ q1135) (fun _ h9 => h9) rfl dX5_settle_50 ?_
        refine lv_iload_n hx hb dX5_settle_53 rfl (lv_at hl 0 rfl) ?_
        refine lv_iconst (v := 3) hx hb dX5_settle_54 (by decide) ?_
        refine ol_iadd hx hb (404 + (7 * (cN q))) 3 dX5_settle_55 ?_
        refine lv_iload_n hx hb dX5_settle_56 rfl (lv_at hl 3 rfl) ?_
        refine ol_iast hx hb hE.1 hP hD hS 1 0 rfl rfl (404 + (7 * (cN q)) + 3) (by omega) (by decide) dX5_settle_57 (fun H locs hP hD hS => ?_)
        replace hP : va_P G.1 cl0 (mW G ad (nI (mRecN st)) iA iL iT iC iR (upd r (404 + (7 * (cN q)) + 3) x) (mRecP pr (mCp r br 592) st) ar (mCp r br 592) f (mRecF pf (mCf f bf 7) st) af (mCf f bf 7) tx) H := hP
        replace hD : va_D (va_A (mW G ad (nI st) iA iL iT iC iR r pr ar br f pf af bf tx) s.heap.size) (mW G ad (nI (mRecN st)) iA iL iT iC iR (upd r (404 + (7 * (cN q)) + 3) x) (mRecP pr (mCp r br 592) st) ar (mCp r br 592) f (mRecF pf (mCf f bf 7) st) af (mCf f bf 7) tx) := hD
        replace hP : va_P G.1 cl0 (mW G ad (nI (mRecN st)) iA iL iT iC iR (mSe1 r (404 + 7 * cN q) x) (mRecP pr (mCp r br 592) st) ar (mCp r br 592) f (mRecF pf (mCf f bf 7) st) af (mCf f bf 7) tx) H := hP
        replace hD : va_D (va_A (mW G ad (nI st) iA iL iT iC iR r pr ar br f pf af bf tx) s.heap.size) (mW G ad (nI (mRecN st)) iA iL iT iC iR (mSe1 r (404 + 7 * cN q) x) (mRecP pr (mCp r br 592) st) ar (mCp r br 592) f (mRecF pf (mCf f bf 7) st) af (mCf f bf 7) tx) := mD_any hD
        refine lv_aload_n hx hb dX5_settle_58 rfl (lv_at hl 1 rfl) ?_
        refine va_get (D := G.1) (ci := 12) (v := .ref (ad 1)) (C := RX5) (T := TX5) (N := 15) hx hb hts in_X5 hown hE.1 hP 0 rfl rfl 0 (by decide) (hts _ q1135) (fun _ h9 => h9) rfl dX5_settle_59 ?_
        refine lv_bipush (v := 9) hx hb dX5_settle_62 (by decide) ?_
        refine ol_iald hx hb hE.1 hP 1 0 rfl rfl 9 (by decide) (by decide) dX5_settle_64 ?_
        refine lv_aload_n hx hb dX5_settle_65 rfl (lv_at hl 1 rfl) ?_
        refine va_get (D := G.1) (ci := 12) (v := .ref (ad 1)) (C := RX5) (T := TX5) (N := 15) hx hb hts in_X5 hown hE.1 hP 0 rfl rfl 0 (by decide) (hts _ q1135) (fun _ h9 => h9) rfl dX5_settle_66 ?_
        refine lv_iload_n hx hb dX5_settle_69 rfl (lv_at hl 0 rfl) ?_
        refine lv_bipush (v := 6) hx hb dX5_settle_70 (by decide) ?_
        refine ol_iadd hx hb (404 + (7 * (cN q))) 6 dX5_settle_72 ?_
        refine ol_iald hx hb hE.1 hP 1 0 rfl rfl (404 + (7 * (cN q)) + 6) (by omega) (by decide) dX5_settle_73 ?_
        refine lv_isub hx hb dX5_settle_74 ?_
        refine lv_bipush (v := 16) hx hb dX5_settle_75 (by decide) ?_
        refine lv_icmp_gt (tgt := 107) hx hb dX5_settle_77 (by decide) (fun c_77 => ?_) (fun c_77 => ?_)
        · replace hP : va_P G.1 cl0 (mW G ad (nI (mRecN st)) iA iL iT iC iR (mSe2 r (404 + 7 * cN q) x) (mRecP pr (mCp r br 592) st) ar (mCp r br 592) f (mRecF pf (mCf f bf 7) st) af (mCf f bf 7) tx) H := by rw [show mSe2 r (404 + 7 * cN q) x = mSe1 r (404 + 7 * cN q) x from by unfold mSe2; rw [if_pos c_77]]; exact hP
          replace hD : va_D (va_A (mW G ad (nI st) iA iL iT iC iR r pr ar br f pf af bf tx) s.heap.size) (mW G ad (nI (mRecN st)) iA iL iT iC iR (mSe2 r (404 + 7 * cN q) x) (mRecP pr (mCp r br 592) st) ar (mCp r br 592) f (mRecF pf (mCf f bf 7) st) af (mCf f bf 7) tx) := mD_any hD
          refine lv_aload_n hx hb dX5_settle_107 rfl (lv_at hl 1 rfl) ?_
          refine lv_iload_n hx hb dX5_settle_108 rfl (lv_at hl 3 rfl) ?_
          refine lv_aload_n hx hb dX5_settle_109 rfl (lv_at hl 1 rfl) ?_
          refine va_get (D := G.1) (ci := 12) (v := .ref (ad 1)) (C := RX5) (T := TX5) (N := 15) hx hb hts in_X5 hown hE.1 hP 0 rfl rfl 0 (by decide) (hts _ q1135) (fun _ h9 => h9) rfl dX5_settle_110 ?_
          refine lv_iload_n hx hb dX5_settle_113 rfl (lv_at hl 0 rfl) ?_
          refine lv_iconst (v := 4) hx hb dX5_settle_114 (by decide) ?_
          refine ol_iadd hx hb (404 + (7 * (cN q))) 4 dX5_settle_115 ?_
          refine ol_iald hx hb hE.1 hP 1 0 rfl rfl (404 + (7 * (cN q)) + 4) (by omega) (by decide) dX5_settle_116 ?_
          refine ol_cM (st1 := []) (va_runV (As := [.int x, .int ((mSe2 r (404 + 7 * cN q) x) (404 + (7 * (cN q)) + 4))]) (rest := []) ⟨hx, hb, hml, hown, hts⟩ (mm_countIt l G ad (nI (mRecN st)) iA iL iT iC iR (mSe2 r (404 + 7 * cN q) x) (mRecP pr (mCp r br 592) st) ar (mCp r br 592) f (mRecF pf (mCf f bf 7) st) af (mCf f bf 7) tx x ((mSe2 r (404 + 7 * cN q) x) (404 + (7 * (cN q)) + 4)) hx0 H.size) (cwV 2 hts (lw_V q1319 q1321 qs41 q73 q1322) rfl rfl rfl (by decide +kernel) ⟨Nat.le_of_ble_eq_true rfl, Nat.le_of_ble_eq_true rfl⟩) (oPc.preV hE (hE.recv (ci := 12) (hP 0 _ rfl) rfl) ⟨rfl, hP, oD_weak hD (fun _ _ => trivial), trivial⟩) rfl rfl hl.1 rfl (lv_room (Nat.le_of_ble_eq_true rfl)) dX5_settle_117 ⟨Nat.le_of_ble_eq_true rfl, Nat.le_of_ble_eq_true rfl⟩) hP hD hS hA rfl (fun H locs hP hD hS => ?_)
          replace hP : va_P G.1 cl0 (mW G ad (nI (mRecN st)) iA iL iT iC iR (mSe3 r (404 + 7 * cN q) x) (mRecP pr (mCp r br 592) st) ar (mCp r br 592) f (mRecF pf (mCf f bf 7) st) af (mCf f bf 7) tx) H := hP
          replace hD : va_D (va_A (mW G ad (nI st) iA iL iT iC iR r pr ar br f pf af bf tx) s.heap.size) (mW G ad (nI (mRecN st)) iA iL iT iC iR (mSe3 r (404 + 7 * cN q) x) (mRecP pr (mCp r br 592) st) ar (mCp r br 592) f (mRecF pf (mCf f bf 7) st) af (mCf f bf 7) tx) := mD_any hD
          refine lv_iload_n hx hb dX5_settle_120 rfl (lv_at hl 3 rfl) ?_
          refine lv_iconst (v := 2) hx hb dX5_settle_121 (by decide) ?_
          refine lv_icmp_ge (tgt := 167) hx hb dX5_settle_122 (by decide) (fun c_122 => ?_) (fun c_122 => ?_)
          · have hnx : ¬ x < 2 := Int32.not_lt.mpr c_122
            replace hP : va_P G.1 cl0 (mW G ad (nI (mRecN st)) iA iL iT iC iR (mSeR r (Rw * Cl) (404 + 7 * cN q) x) (mRecP pr (mCp r br 592) st) ar (mCp r br 592) f (mRecF pf (mCf f bf 7) st) af (mCf f bf 7) tx) H := by rw [show mSeR r (Rw * Cl) (404 + 7 * cN q) x = mSe3 r (404 + 7 * cN q) x from by unfold mSeR; rw [if_neg hnx]]; exact hP
            replace hD : va_D (va_A (mW G ad (nI st) iA iL iT iC iR r pr ar br f pf af bf tx) s.heap.size) (mW G ad (nI (mRecN st)) iA iL iT iC iR (mSeR r (Rw * Cl) (404 + 7 * cN q) x) (mRecP pr (mCp r br 592) st) ar (mCp r br 592) f (mRecF pf (mCf f bf 7) st) af (mCf f bf 7) tx) := mD_any hD
            replace hP : va_P G.1 cl0 (mW G ad (nI (mRecN st)) iA iL iT iC iR (mSeR r (Rw * Cl) (404 + 7 * cN q) x) (mRecP pr (mCp r br 592) st) ar (mCp r br 592) (mSeF r f (404 + 7 * cN q) x) (mRecF pf (mCf f bf 7) st) af (mCf f bf 7) tx) H := by rw [show mSeF r f (404 + 7 * cN q) x = f from by unfold mSeF; rw [if_neg hnx]]; exact hP
            replace hD : va_D (va_A (mW G ad (nI st) iA iL iT iC iR r pr ar br f pf af bf tx) s.heap.size) (mW G ad (nI (mRecN st)) iA iL iT iC iR (mSeR r (Rw * Cl) (404 + 7 * cN q) x) (mRecP pr (mCp r br 592) st) ar (mCp r br 592) (mSeF r f (404 + 7 * cN q) x) (mRecF pf (mCf f bf 7) st) af (mCf f bf 7) tx) := mD_any hD
            refine lv_aload_n hx hb dX5_settle_167 rfl (lv_at hl 1 rfl) ?_
            refine va_get (D := G.1) (ci := 12) (v := .ref (ad 1)) (C := RX5) (T := TX5) (N := 15) hx hb hts in_X5 hown hE.1 hP 0 rfl rfl 0 (by decide) (hts _ q1135) (fun _ h9 => h9) rfl dX5_settle_168 ?_
            refine lv_iload_n hx hb dX5_settle_171 rfl (lv_at hl 0 rfl) ?_
            refine lv_iconst (v := 0) hx hb dX5_settle_172 (by decide) ?_
            refine ol_iadd hx hb (404 + (7 * (cN q))) 0 dX5_settle_173 ?_
            refine ol_iald hx hb hE.1 hP 1 0 rfl rfl (404 + (7 * (cN q)) + 0) (by omega) (by decide) dX5_settle_174 ?_
            have hN : mSeN r q x = false := by unfold mSeN; rw [c_5, c_16, decide_eq_true c_39]; rfl
            exact ol_iretE hx hb hr hlocks ⟨congrArg (fun z => some (Value.int z)) (by unfold mSeV; rw [if_neg (by rw [c_5]; decide), if_pos c_16, if_pos c_39]), (by simp only [hN, Bool.false_eq_true, if_false])⟩ hP hD hS dX5_settle_175
          · have hxx := Int32.not_le.mp c_122
            have hxx2 := (lt2 hx0 hxx).1
            refine lv_aload_n hx hb dX5_settle_125 rfl (lv_at hl 1 rfl) ?_
            refine lv_iload_n hx hb dX5_settle_126 rfl (lv_at hl 3 rfl) ?_
            refine ol_top (y := nI (cN x)) hx1 ?_
            refine lv_aload_n hx hb dX5_settle_127 rfl (lv_at hl 1 rfl) ?_
            refine va_get (D := G.1) (ci := 12) (v := .ref (ad 1)) (C := RX5) (T := TX5) (N := 15) hx hb hts in_X5 hown hE.1 hP 0 rfl rfl 0 (by decide) (hts _ q1135) (fun _ h9 => h9) rfl dX5_settle_128 ?_
            refine lv_iload_n hx hb dX5_settle_131 rfl (lv_at hl 0 rfl) ?_
            refine lv_iconst (v := 1) hx hb dX5_settle_132 (by decide) ?_
            refine ol_iadd hx hb (404 + (7 * (cN q))) 1 dX5_settle_133 ?_
            refine ol_iald hx hb hE.1 hP 1 0 rfl rfl (404 + (7 * (cN q)) + 1) (by omega) (by decide) dX5_settle_134 ?_
            refine lv_aload_n hx hb dX5_settle_135 rfl (lv_at hl 1 rfl) ?_
            refine va_get (D := G.1) (ci := 12) (v := .ref (ad 1)) (C := RX5) (T := TX5) (N := 15) hx hb hts in_X5 hown hE.1 hP 0 rfl rfl 0 (by decide) (hts _ q1135) (fun _ h9 => h9) rfl dX5_settle_136 ?_
            refine lv_iload_n hx hb dX5_settle_139 rfl (lv_at hl 0 rfl) ?_
            refine lv_iconst (v := 2) hx hb dX5_settle_140 (by decide) ?_
            refine ol_iadd hx hb (404 + (7 * (cN q))) 2 dX5_settle_141 ?_
            refine ol_iald hx hb hE.1 hP 1 0 rfl rfl (404 + (7 * (cN q)) + 2) (by omega) (by decide) dX5_settle_142 ?_
            refine ol_cM (st1 := []) (va_runV (As := [.int (nI (cN x)), .int ((mSe3 r (404 + 7 * cN q) x) (404 + (7 * (cN q)) + 1)), .int ((mSe3 r (404 + 7 * cN q) x) (404 + (7 * (cN q)) + 2))]) (rest := []) ⟨hx, hb, hml, hown, hts⟩ (mm_learn l G ad (nI (mRecN st)) iA iL iT iC iR (mSe3 r (404 + 7 * cN q) x) (mRecP pr (mCp r br 592) st) ar (mCp r br 592) f (mRecF pf (mCf f bf 7) st) af (mCf f bf 7) tx (cN x) ((mSe3 r (404 + 7 * cN q) x) (404 + (7 * (cN q)) + 1)) ((mSe3 r (404 + 7 * cN q) x) (404 + (7 * (cN q)) + 2)) (by omega) hm hrt H.size) (cwV 3 hts (lw_V q1323 q1325 qs42 q73 q1326) rfl rfl rfl (by decide +kernel) ⟨Nat.le_of_ble_eq_true rfl, Nat.le_of_ble_eq_true rfl⟩) (oPc.preV hE (hE.recv (ci := 12) (hP 0 _ rfl) rfl) ⟨rfl, hP, oD_weak hD (fun _ _ => trivial), trivial⟩) rfl rfl hl.1 rfl (lv_room (Nat.le_of_ble_eq_true rfl)) dX5_settle_143 ⟨Nat.le_of_ble_eq_true rfl, Nat.le_of_ble_eq_true rfl⟩) hP hD hS hA rfl (fun H locs hP hD hS => ?_)
            replace hP : va_P G.1 cl0 (mW G ad (nI (mRecN st)) iA iL iT iC iR (mSe4 r (404 + 7 * cN q) x) (mRecP pr (mCp r br 592) st) ar (mCp r br 592) (mLnF (mSe3 r (404 + 7 * cN q) x) f (cN x) ((mSe3 r (404 + 7 * cN q) x) (404 + (7 * (cN q)) + 1)) ((mSe3 r (404 + 7 * cN q) x) (404 + (7 * (cN q)) + 2))) (mRecF pf (mCf f bf 7) st) af (mCf f bf 7) tx) H := hP
            replace hD : va_D (va_A (mW G ad (nI st) iA iL iT iC iR r pr ar br f pf af bf tx) s.heap.size) (mW G ad (nI (mRecN st)) iA iL iT iC iR (mSe4 r (404 + 7 * cN q) x) (mRecP pr (mCp r br 592) st) ar (mCp r br 592) (mLnF (mSe3 r (404 + 7 * cN q) x) f (cN x) ((mSe3 r (404 + 7 * cN q) x) (404 + (7 * (cN q)) + 1)) ((mSe3 r (404 + 7 * cN q) x) (404 + (7 * (cN q)) + 2))) (mRecF pf (mCf f bf 7) st) af (mCf f bf 7) tx) := mD_any hD
            replace hP : va_P G.1 cl0 (mW G ad (nI (mRecN st)) iA iL iT iC iR (mSe4 r (404 + 7 * cN q) x) (mRecP pr (mCp r br 592) st) ar (mCp r br 592) (mSeF r f (404 + 7 * cN q) x) (mRecF pf (mCf f bf 7) st) af (mCf f bf 7) tx) H := by rw [show mSeF r f (404 + 7 * cN q) x = mLnF (mSe3 r (404 + 7 * cN q) x) f (cN x) ((mSe3 r (404 + 7 * cN q) x) (404 + (7 * (cN q)) + 1)) ((mSe3 r (404 + 7 * cN q) x) (404 + (7 * (cN q)) + 2)) from by unfold mSeF; rw [if_pos hxx]]; exact hP
            replace hD : va_D (va_A (mW G ad (nI st) iA iL iT iC iR r pr ar br f pf af bf tx) s.heap.size) (mW G ad (nI (mRecN st)) iA iL iT iC iR (mSe4 r (404 + 7 * cN q) x) (mRecP pr (mCp r br 592) st) ar (mCp r br 592) (mSeF r f (404 + 7 * cN q) x) (mRecF pf (mCf f bf 7) st) af (mCf f bf 7) tx) := mD_any hD
            refine lv_aload_n hx hb dX5_settle_146 rfl (lv_at hl 1 rfl) ?_
            refine lv_iload_n hx hb dX5_settle_147 rfl (lv_at hl 3 rfl) ?_
            refine ol_top (y := nI (cN x)) hx1 ?_
            refine lv_aload_n hx hb dX5_settle_148 rfl (lv_at hl 1 rfl) ?_
            refine va_get (D := G.1) (ci := 12) (v := .ref (ad 1)) (C := RX5) (T := TX5) (N := 15) hx hb hts in_X5 hown hE.1 hP 0 rfl rfl 0 (by decide) (hts _ q1135) (fun _ h9 => h9) rfl dX5_settle_149 ?_
            refine lv_iload_n hx hb dX5_settle_152 rfl (lv_at hl 0 rfl) ?_
            refine lv_iconst (v := 0) hx hb dX5_settle_153 (by decide) ?_
            refine ol_iadd hx hb (404 + (7 * (cN q))) 0 dX5_settle_154 ?_
            refine ol_iald hx hb hE.1 hP 1 0 rfl rfl (404 + (7 * (cN q)) + 0) (by omega) (by decide) dX5_settle_155 ?_
            refine lv_aload_n hx hb dX5_settle_156 rfl (lv_at hl 1 rfl) ?_
            refine va_get (D := G.1) (ci := 12) (v := .ref (ad 1)) (C := RX5) (T := TX5) (N := 15) hx hb hts in_X5 hown hE.1 hP 0 rfl rfl 0 (by decide) (hts _ q1135) (fun _ h9 => h9) rfl dX5_settle_157 ?_
            refine lv_iload_n hx hb dX5_settle_160 rfl (lv_at hl 0 rfl) ?_
            refine lv_iconst (v := 5) hx hb dX5_settle_161 (by decide) ?_
            refine ol_iadd hx hb (404 + (7 * (cN q))) 5 dX5_settle_162 ?_
            refine ol_iald hx hb hE.1 hP 1 0 rfl rfl (404 + (7 * (cN q)) + 5) (by omega) (by decide) dX5_settle_163 ?_
            refine ol_cM (st1 := []) (va_runV (As := [.int (nI (cN x)), .int ((mSe4 r (404 + 7 * cN q) x) (404 + (7 * (cN q)) + 0)), .int ((mSe4 r (404 + 7 * cN q) x) (404 + (7 * (cN q)) + 5))]) (rest := []) ⟨hx, hb, hml, hown, hts⟩ (mm_giveSign l G ad (nI (mRecN st)) iA iL iT iC iR (mSe4 r (404 + 7 * cN q) x) (mRecP pr (mCp r br 592) st) ar (mCp r br 592) (mSeF r f (404 + 7 * cN q) x) (mRecF pf (mCf f bf 7) st) af (mCf f bf 7) tx (cN x) ((mSe4 r (404 + 7 * cN q) x) (404 + (7 * (cN q)) + 0)) ((mSe4 r (404 + 7 * cN q) x) (404 + (7 * (cN q)) + 5)) Rw Cl (by omega) (mG_of (mSe4_lo hx0 hxx (by omega) (by omega)) (mSe4_lo hx0 hxx (by omega) (by omega)) hg) (fun z hz => by rw [mSe4_lo hx0 hxx (by omega) (by omega)]; exact hty z hz) H.size) (cwV 3 hts (lw_V q1331 q1333 qs44 q73 q1334) rfl rfl rfl (by decide +kernel) ⟨Nat.le_of_ble_eq_true rfl, Nat.le_of_ble_eq_true rfl⟩) (oPc.preV hE (hE.recv (ci := 12) (hP 0 _ rfl) rfl) ⟨rfl, hP, oD_weak hD (fun _ _ => trivial), trivial⟩) rfl rfl hl.1 rfl (lv_room (Nat.le_of_ble_eq_true rfl)) dX5_settle_164 ⟨Nat.le_of_ble_eq_true rfl, Nat.le_of_ble_eq_true rfl⟩) hP hD hS hA rfl (fun H locs hP hD hS => ?_)
            replace hP : va_P G.1 cl0 (mW G ad (nI (mRecN st)) iA iL iT iC iR (mSeR r (Rw * Cl) (404 + 7 * cN q) x) (mRecP pr (mCp r br 592) st) ar (mCp r br 592) (mSeF r f (404 + 7 * cN q) x) (mRecF pf (mCf f bf 7) st) af (mCf f bf 7) tx) H := by rw [show mSeR r (Rw * Cl) (404 + 7 * cN q) x = mGs (mSe4 r (404 + 7 * cN q) x) (Rw * Cl) (cN x) ((mSe4 r (404 + 7 * cN q) x) (404 + (7 * (cN q)) + 0)) ((mSe4 r (404 + 7 * cN q) x) (404 + (7 * (cN q)) + 5)) from by unfold mSeR; rw [if_pos hxx]]; exact hP
            replace hD : va_D (va_A (mW G ad (nI st) iA iL iT iC iR r pr ar br f pf af bf tx) s.heap.size) (mW G ad (nI (mRecN st)) iA iL iT iC iR (mSeR r (Rw * Cl) (404 + 7 * cN q) x) (mRecP pr (mCp r br 592) st) ar (mCp r br 592) (mSeF r f (404 + 7 * cN q) x) (mRecF pf (mCf f bf 7) st) af (mCf f bf 7) tx) := mD_any hD
            refine lv_aload_n hx hb dX5_settle_167 rfl (lv_at hl 1 rfl) ?_
            refine va_get (D := G.1) (ci := 12) (v := .ref (ad 1)) (C := RX5) (T := TX5) (N := 15) hx hb hts in_X5 hown hE.1 hP 0 rfl rfl 0 (by decide) (hts _ q1135) (fun _ h9 => h9) rfl dX5_settle_168 ?_
            refine lv_iload_n hx hb dX5_settle_171 rfl (lv_at hl 0 rfl) ?_
            refine lv_iconst (v := 0) hx hb dX5_settle_172 (by decide) ?_
            refine ol_iadd hx hb (404 + (7 * (cN q))) 0 dX5_settle_173 ?_
            refine ol_iald hx hb hE.1 hP 1 0 rfl rfl (404 + (7 * (cN q)) + 0) (by omega) (by decide) dX5_settle_174 ?_
            have hN : mSeN r q x = false := by unfold mSeN; rw [c_5, c_16, decide_eq_true c_39]; rfl
            exact ol_iretE hx hb hr hlocks ⟨congrArg (fun z => some (Value.int z)) (by unfold mSeV; rw [if_neg (by rw [c_5]; decide), if_pos c_16, if_pos c_39]), (by simp only [hN, Bool.false_eq_true, if_false])⟩ hP hD hS dX5_settle_175
        · refine lv_aload_n hx hb dX5_settle_80 rfl (lv_at hl 1 rfl) ?_
          refine va_get (D := G.1) (ci := 12) (v := .ref (ad 1)) (C := RX5) (T := TX5) (N := 15) hx hb hts in_X5 hown hE.1 hP 0 rfl rfl 0 (by decide) (hts _ q1135) (fun _ h9 => h9) rfl dX5_settle_81 ?_
          refine lv_sipush (v := 308) hx hb dX5_settle_84 (by decide) ?_
          refine lv_bipush (v := 6) hx hb dX5_settle_87 (by decide) ?_
          refine lv_aload_n hx hb dX5_settle_89 rfl (lv_at hl 1 rfl) ?_
          refine va_get (D := G.1) (ci := 12) (v := .ref (ad 1)) (C := RX5) (T := TX5) (N := 15) hx hb hts in_X5 hown hE.1 hP 0 rfl rfl 0 (by decide) (hts _ q1135) (fun _ h9 => h9) rfl dX5_settle_90 ?_
          refine lv_iload_n hx hb dX5_settle_93 rfl (lv_at hl 0 rfl) ?_
          refine lv_bipush (v := 6) hx hb dX5_settle_94 (by decide) ?_
          refine ol_iadd hx hb (404 + (7 * (cN q))) 6 dX5_settle_96 ?_
          refine ol_iald hx hb hE.1 hP 1 0 rfl rfl (404 + (7 * (cN q)) + 6) (by omega) (by decide) dX5_settle_97 ?_
          refine ol_top (y := nI (cN (r (404 + 7 * cN q + 6)))) (by show upd _ _ _ _ = _; rw [pk_un (by omega)]; exact hu1) ?_
          refine lv_bipush (v := 16) hx hb dX5_settle_98 (by decide) ?_
          refine ol_irem hx hb (cN (r (404 + 7 * cN q + 6))) 16 (by omega) (by omega) (by omega) dX5_settle_100 ?_
          refine ol_imul hx hb 6 ((cN (r (404 + 7 * cN q + 6))) % 16) dX5_settle_101 ?_
          refine ol_iadd hx hb 308 (6 * ((cN (r (404 + 7 * cN q + 6))) % 16)) dX5_settle_102 ?_
          refine lv_iconst (v := 3) hx hb dX5_settle_103 (by decide) ?_
          refine ol_iadd hx hb (308 + (6 * ((cN (r (404 + 7 * cN q + 6))) % 16))) 3 dX5_settle_104 ?_
          refine lv_iload_n hx hb dX5_settle_105 rfl (lv_at hl 3 rfl) ?_
          refine ol_iast hx hb hE.1 hP hD hS 1 0 rfl rfl (308 + (6 * ((cN (r (404 + 7 * cN q + 6))) % 16)) + 3) (by omega) (by decide) dX5_settle_106 (fun H locs hP hD hS => ?_)
          replace hP : va_P G.1 cl0 (mW G ad (nI (mRecN st)) iA iL iT iC iR (upd (mSe1 r (404 + 7 * cN q) x) (308 + (6 * ((cN (r (404 + 7 * cN q + 6))) % 16)) + 3) x) (mRecP pr (mCp r br 592) st) ar (mCp r br 592) f (mRecF pf (mCf f bf 7) st) af (mCf f bf 7) tx) H := hP
          replace hD : va_D (va_A (mW G ad (nI st) iA iL iT iC iR r pr ar br f pf af bf tx) s.heap.size) (mW G ad (nI (mRecN st)) iA iL iT iC iR (upd (mSe1 r (404 + 7 * cN q) x) (308 + (6 * ((cN (r (404 + 7 * cN q + 6))) % 16)) + 3) x) (mRecP pr (mCp r br 592) st) ar (mCp r br 592) f (mRecF pf (mCf f bf 7) st) af (mCf f bf 7) tx) := hD
          replace hP : va_P G.1 cl0 (mW G ad (nI (mRecN st)) iA iL iT iC iR (mSe2 r (404 + 7 * cN q) x) (mRecP pr (mCp r br 592) st) ar (mCp r br 592) f (mRecF pf (mCf f bf 7) st) af (mCf f bf 7) tx) H := by rw [show mSe2 r (404 + 7 * cN q) x = upd (mSe1 r (404 + 7 * cN q) x) (308 + (6 * ((cN (r (404 + 7 * cN q + 6))) % 16)) + 3) x from by unfold mSe2; rw [if_neg c_77]]; exact hP
          replace hD : va_D (va_A (mW G ad (nI st) iA iL iT iC iR r pr ar br f pf af bf tx) s.heap.size) (mW G ad (nI (mRecN st)) iA iL iT iC iR (mSe2 r (404 + 7 * cN q) x) (mRecP pr (mCp r br 592) st) ar (mCp r br 592) f (mRecF pf (mCf f bf 7) st) af (mCf f bf 7) tx) := mD_any hD
          refine lv_aload_n hx hb dX5_settle_107 rfl (lv_at hl 1 rfl) ?_
          refine lv_iload_n hx hb dX5_settle_108 rfl (lv_at hl 3 rfl) ?_
          refine lv_aload_n hx hb dX5_settle_109 rfl (lv_at hl 1 rfl) ?_
          refine va_get (D := G.1) (ci := 12) (v := .ref (ad 1)) (C := RX5) (T := TX5) (N := 15) hx hb hts in_X5 hown hE.1 hP 0 rfl rfl 0 (by decide) (hts _ q1135) (fun _ h9 => h9) rfl dX5_settle_110 ?_
          refine lv_iload_n hx hb dX5_settle_113 rfl (lv_at hl 0 rfl) ?_
          refine lv_iconst (v := 4) hx hb dX5_settle_114 (by decide) ?_
          refine ol_iadd hx hb (404 + (7 * (cN q))) 4 dX5_settle_115 ?_
          refine ol_iald hx hb hE.1 hP 1 0 rfl rfl (404 + (7 * (cN q)) + 4) (by omega) (by decide) dX5_settle_116 ?_
          refine ol_cM (st1 := []) (va_runV (As := [.int x, .int ((mSe2 r (404 + 7 * cN q) x) (404 + (7 * (cN q)) + 4))]) (rest := []) ⟨hx, hb, hml, hown, hts⟩ (mm_countIt l G ad (nI (mRecN st)) iA iL iT iC iR (mSe2 r (404 + 7 * cN q) x) (mRecP pr (mCp r br 592) st) ar (mCp r br 592) f (mRecF pf (mCf f bf 7) st) af (mCf f bf 7) tx x ((mSe2 r (404 + 7 * cN q) x) (404 + (7 * (cN q)) + 4)) hx0 H.size) (cwV 2 hts (lw_V q1319 q1321 qs41 q73 q1322) rfl rfl rfl (by decide +kernel) ⟨Nat.le_of_ble_eq_true rfl, Nat.le_of_ble_eq_true rfl⟩) (oPc.preV hE (hE.recv (ci := 12) (hP 0 _ rfl) rfl) ⟨rfl, hP, oD_weak hD (fun _ _ => trivial), trivial⟩) rfl rfl hl.1 rfl (lv_room (Nat.le_of_ble_eq_true rfl)) dX5_settle_117 ⟨Nat.le_of_ble_eq_true rfl, Nat.le_of_ble_eq_true rfl⟩) hP hD hS hA rfl (fun H locs hP hD hS => ?_)
          replace hP : va_P G.1 cl0 (mW G ad (nI (mRecN st)) iA iL iT iC iR (mSe3 r (404 + 7 * cN q) x) (mRecP pr (mCp r br 592) st) ar (mCp r br 592) f (mRecF pf (mCf f bf 7) st) af (mCf f bf 7) tx) H := hP
          replace hD : va_D (va_A (mW G ad (nI st) iA iL iT iC iR r pr ar br f pf af bf tx) s.heap.size) (mW G ad (nI (mRecN st)) iA iL iT iC iR (mSe3 r (404 + 7 * cN q) x) (mRecP pr (mCp r br 592) st) ar (mCp r br 592) f (mRecF pf (mCf f bf 7) st) af (mCf f bf 7) tx) := mD_any hD
          refine lv_iload_n hx hb dX5_settle_120 rfl (lv_at hl 3 rfl) ?_
          refine lv_iconst (v := 2) hx hb dX5_settle_121 (by decide) ?_
          refine lv_icmp_ge (tgt := 167) hx hb dX5_settle_122 (by decide) (fun c_122 => ?_) (fun c_122 => ?_)
          · have hnx : ¬ x < 2 := Int32.not_lt.mpr c_122
            replace hP : va_P G.1 cl0 (mW G ad (nI (mRecN st)) iA iL iT iC iR (mSeR r (Rw * Cl) (404 + 7 * cN q) x) (mRecP pr (mCp r br 592) st) ar (mCp r br 592) f (mRecF pf (mCf f bf 7) st) af (mCf f bf 7) tx) H := by rw [show mSeR r (Rw * Cl) (404 + 7 * cN q) x = mSe3 r (404 + 7 * cN q) x from by unfold mSeR; rw [if_neg hnx]]; exact hP
            replace hD : va_D (va_A (mW G ad (nI st) iA iL iT iC iR r pr ar br f pf af bf tx) s.heap.size) (mW G ad (nI (mRecN st)) iA iL iT iC iR (mSeR r (Rw * Cl) (404 + 7 * cN q) x) (mRecP pr (mCp r br 592) st) ar (mCp r br 592) f (mRecF pf (mCf f bf 7) st) af (mCf f bf 7) tx) := mD_any hD
            replace hP : va_P G.1 cl0 (mW G ad (nI (mRecN st)) iA iL iT iC iR (mSeR r (Rw * Cl) (404 + 7 * cN q) x) (mRecP pr (mCp r br 592) st) ar (mCp r br 592) (mSeF r f (404 + 7 * cN q) x) (mRecF pf (mCf f bf 7) st) af (mCf f bf 7) tx) H := by rw [show mSeF r f (404 + 7 * cN q) x = f from by unfold mSeF; rw [if_neg hnx]]; exact hP
            replace hD : va_D (va_A (mW G ad (nI st) iA iL iT iC iR r pr ar br f pf af bf tx) s.heap.size) (mW G ad (nI (mRecN st)) iA iL iT iC iR (mSeR r (Rw * Cl) (404 + 7 * cN q) x) (mRecP pr (mCp r br 592) st) ar (mCp r br 592) (mSeF r f (404 + 7 * cN q) x) (mRecF pf (mCf f bf 7) st) af (mCf f bf 7) tx) := mD_any hD
            refine lv_aload_n hx hb dX5_settle_167 rfl (lv_at hl 1 rfl) ?_
            refine va_get (D := G.1) (ci := 12) (v := .ref (ad 1)) (C := RX5) (T := TX5) (N := 15) hx hb hts in_X5 hown hE.1 hP 0 rfl rfl 0 (by decide) (hts _ q1135) (fun _ h9 => h9) rfl dX5_settle_168 ?_
            refine lv_iload_n hx hb dX5_settle_171 rfl (lv_at hl 0 rfl) ?_
            refine lv_iconst (v := 0) hx hb dX5_settle_172 (by decide) ?_
            refine ol_iadd hx hb (404 + (7 * (cN q))) 0 dX5_settle_173 ?_
            refine ol_iald hx hb hE.1 hP 1 0 rfl rfl (404 + (7 * (cN q)) + 0) (by omega) (by decide) dX5_settle_174 ?_
            have hN : mSeN r q x = false := by unfold mSeN; rw [c_5, c_16, decide_eq_true c_39]; rfl
            exact ol_iretE hx hb hr hlocks ⟨congrArg (fun z => some (Value.int z)) (by unfold mSeV; rw [if_neg (by rw [c_5]; decide), if_pos c_16, if_pos c_39]), (by simp only [hN, Bool.false_eq_true, if_false])⟩ hP hD hS dX5_settle_175
          · have hxx := Int32.not_le.mp c_122
            have hxx2 := (lt2 hx0 hxx).1
            refine lv_aload_n hx hb dX5_settle_125 rfl (lv_at hl 1 rfl) ?_
            refine lv_iload_n hx hb dX5_settle_126 rfl (lv_at hl 3 rfl) ?_
            refine ol_top (y := nI (cN x)) hx1 ?_
            refine lv_aload_n hx hb dX5_settle_127 rfl (lv_at hl 1 rfl) ?_
            refine va_get (D := G.1) (ci := 12) (v := .ref (ad 1)) (C := RX5) (T := TX5) (N := 15) hx hb hts in_X5 hown hE.1 hP 0 rfl rfl 0 (by decide) (hts _ q1135) (fun _ h9 => h9) rfl dX5_settle_128 ?_
            refine lv_iload_n hx hb dX5_settle_131 rfl (lv_at hl 0 rfl) ?_
            refine lv_iconst (v := 1) hx hb dX5_settle_132 (by decide) ?_
            refine ol_iadd hx hb (404 + (7 * (cN q))) 1 dX5_settle_133 ?_
            refine ol_iald hx hb hE.1 hP 1 0 rfl rfl (404 + (7 * (cN q)) + 1) (by omega) (by decide) dX5_settle_134 ?_
            refine lv_aload_n hx hb dX5_settle_135 rfl (lv_at hl 1 rfl) ?_
            refine va_get (D := G.1) (ci := 12) (v := .ref (ad 1)) (C := RX5) (T := TX5) (N := 15) hx hb hts in_X5 hown hE.1 hP 0 rfl rfl 0 (by decide) (hts _ q1135) (fun _ h9 => h9) rfl dX5_settle_136 ?_
            refine lv_iload_n hx hb dX5_settle_139 rfl (lv_at hl 0 rfl) ?_
            refine lv_iconst (v := 2) hx hb dX5_settle_140 (by decide) ?_
            refine ol_iadd hx hb (404 + (7 * (cN q))) 2 dX5_settle_141 ?_
            refine ol_iald hx hb hE.1 hP 1 0 rfl rfl (404 + (7 * (cN q)) + 2) (by omega) (by decide) dX5_settle_142 ?_
            refine ol_cM (st1 := []) (va_runV (As := [.int (nI (cN x)), .int ((mSe3 r (404 + 7 * cN q) x) (404 + (7 * (cN q)) + 1)), .int ((mSe3 r (404 + 7 * cN q) x) (404 + (7 * (cN q)) + 2))]) (rest := []) ⟨hx, hb, hml, hown, hts⟩ (mm_learn l G ad (nI (mRecN st)) iA iL iT iC iR (mSe3 r (404 + 7 * cN q) x) (mRecP pr (mCp r br 592) st) ar (mCp r br 592) f (mRecF pf (mCf f bf 7) st) af (mCf f bf 7) tx (cN x) ((mSe3 r (404 + 7 * cN q) x) (404 + (7 * (cN q)) + 1)) ((mSe3 r (404 + 7 * cN q) x) (404 + (7 * (cN q)) + 2)) (by omega) hm hrt H.size) (cwV 3 hts (lw_V q1323 q1325 qs42 q73 q1326) rfl rfl rfl (by decide +kernel) ⟨Nat.le_of_ble_eq_true rfl, Nat.le_of_ble_eq_true rfl⟩) (oPc.preV hE (hE.recv (ci := 12) (hP 0 _ rfl) rfl) ⟨rfl, hP, oD_weak hD (fun _ _ => trivial), trivial⟩) rfl rfl hl.1 rfl (lv_room (Nat.le_of_ble_eq_true rfl)) dX5_settle_143 ⟨Nat.le_of_ble_eq_true rfl, Nat.le_of_ble_eq_true rfl⟩) hP hD hS hA rfl (fun H locs hP hD hS => ?_)
            replace hP : va_P G.1 cl0 (mW G ad (nI (mRecN st)) iA iL iT iC iR (mSe4 r (404 + 7 * cN q) x) (mRecP pr (mCp r br 592) st) ar (mCp r br 592) (mLnF (mSe3 r (404 + 7 * cN q) x) f (cN x) ((mSe3 r (404 + 7 * cN q) x) (404 + (7 * (cN q)) + 1)) ((mSe3 r (404 + 7 * cN q) x) (404 + (7 * (cN q)) + 2))) (mRecF pf (mCf f bf 7) st) af (mCf f bf 7) tx) H := hP
            replace hD : va_D (va_A (mW G ad (nI st) iA iL iT iC iR r pr ar br f pf af bf tx) s.heap.size) (mW G ad (nI (mRecN st)) iA iL iT iC iR (mSe4 r (404 + 7 * cN q) x) (mRecP pr (mCp r br 592) st) ar (mCp r br 592) (mLnF (mSe3 r (404 + 7 * cN q) x) f (cN x) ((mSe3 r (404 + 7 * cN q) x) (404 + (7 * (cN q)) + 1)) ((mSe3 r (404 + 7 * cN q) x) (404 + (7 * (cN q)) + 2))) (mRecF pf (mCf f bf 7) st) af (mCf f bf 7) tx) := mD_any hD
            replace hP : va_P G.1 cl0 (mW G ad (nI (mRecN st)) iA iL iT iC iR (mSe4 r (404 + 7 * cN q) x) (mRecP pr (mCp r br 592) st) ar (mCp r br 592) (mSeF r f (404 + 7 * cN q) x) (mRecF pf (mCf f bf 7) st) af (mCf f bf 7) tx) H := by rw [show mSeF r f (404 + 7 * cN q) x = mLnF (mSe3 r (404 + 7 * cN q) x) f (cN x) ((mSe3 r (404 + 7 * cN q) x) (404 + (7 * (cN q)) + 1)) ((mSe3 r (404 + 7 * cN q) x) (404 + (7 * (cN q)) + 2)) from by unfold mSeF; rw [if_pos hxx]]; exact hP
            replace hD : va_D (va_A (mW G ad (nI st) iA iL iT iC iR r pr ar br f pf af bf tx) s.heap.size) (mW G ad (nI (mRecN st)) iA iL iT iC iR (mSe4 r (404 + 7 * cN q) x) (mRecP pr (mCp r br 592) st) ar (mCp r br 592) (mSeF r f (404 + 7 * cN q) x) (mRecF pf (mCf f bf 7) st) af (mCf f bf 7) tx) := mD_any hD
            refine lv_aload_n hx hb dX5_settle_146 rfl (lv_at hl 1 rfl) ?_
            refine lv_iload_n hx hb dX5_settle_147 rfl (lv_at hl 3 rfl) ?_
            refine ol_top (y := nI (cN x)) hx1 ?_
            refine lv_aload_n hx hb dX5_settle_148 rfl (lv_at hl 1 rfl) ?_
            refine va_get (D := G.1) (ci := 12) (v := .ref (ad 1)) (C := RX5) (T := TX5) (N := 15) hx hb hts in_X5 hown hE.1 hP 0 rfl rfl 0 (by decide) (hts _ q1135) (fun _ h9 => h9) rfl dX5_settle_149 ?_
            refine lv_iload_n hx hb dX5_settle_152 rfl (lv_at hl 0 rfl) ?_
            refine lv_iconst (v := 0) hx hb dX5_settle_153 (by decide) ?_
            refine ol_iadd hx hb (404 + (7 * (cN q))) 0 dX5_settle_154 ?_
            refine ol_iald hx hb hE.1 hP 1 0 rfl rfl (404 + (7 * (cN q)) + 0) (by omega) (by decide) dX5_settle_155 ?_
            refine lv_aload_n hx hb dX5_settle_156 rfl (lv_at hl 1 rfl) ?_
            refine va_get (D := G.1) (ci := 12) (v := .ref (ad 1)) (C := RX5) (T := TX5) (N := 15) hx hb hts in_X5 hown hE.1 hP 0 rfl rfl 0 (by decide) (hts _ q1135) (fun _ h9 => h9) rfl dX5_settle_157 ?_
            refine lv_iload_n hx hb dX5_settle_160 rfl (lv_at hl 0 rfl) ?_
            refine lv_iconst (v := 5) hx hb dX5_settle_161 (by decide) ?_
            refine ol_iadd hx hb (404 + (7 * (cN q))) 5 dX5_settle_162 ?_
            refine ol_iald hx hb hE.1 hP 1 0 rfl rfl (404 + (7 * (cN q)) + 5) (by omega) (by decide) dX5_settle_163 ?_
            refine ol_cM (st1 := []) (va_runV (As := [.int (nI (cN x)), .int ((mSe4 r (404 + 7 * cN q) x) (404 + (7 * (cN q)) + 0)), .int ((mSe4 r (404 + 7 * cN q) x) (404 + (7 * (cN q)) + 5))]) (rest := []) ⟨hx, hb, hml, hown, hts⟩ (mm_giveSign l G ad (nI (mRecN st)) iA iL iT iC iR (mSe4 r (404 + 7 * cN q) x) (mRecP pr (mCp r br 592) st) ar (mCp r br 592) (mSeF r f (404 + 7 * cN q) x) (mRecF pf (mCf f bf 7) st) af (mCf f bf 7) tx (cN x) ((mSe4 r (404 + 7 * cN q) x) (404 + (7 * (cN q)) + 0)) ((mSe4 r (404 + 7 * cN q) x) (404 + (7 * (cN q)) + 5)) Rw Cl (by omega) (mG_of (mSe4_lo hx0 hxx (by omega) (by omega)) (mSe4_lo hx0 hxx (by omega) (by omega)) hg) (fun z hz => by rw [mSe4_lo hx0 hxx (by omega) (by omega)]; exact hty z hz) H.size) (cwV 3 hts (lw_V q1331 q1333 qs44 q73 q1334) rfl rfl rfl (by decide +kernel) ⟨Nat.le_of_ble_eq_true rfl, Nat.le_of_ble_eq_true rfl⟩) (oPc.preV hE (hE.recv (ci := 12) (hP 0 _ rfl) rfl) ⟨rfl, hP, oD_weak hD (fun _ _ => trivial), trivial⟩) rfl rfl hl.1 rfl (lv_room (Nat.le_of_ble_eq_true rfl)) dX5_settle_164 ⟨Nat.le_of_ble_eq_true rfl, Nat.le_of_ble_eq_true rfl⟩) hP hD hS hA rfl (fun H locs hP hD hS => ?_)
            replace hP : va_P G.1 cl0 (mW G ad (nI (mRecN st)) iA iL iT iC iR (mSeR r (Rw * Cl) (404 + 7 * cN q) x) (mRecP pr (mCp r br 592) st) ar (mCp r br 592) (mSeF r f (404 + 7 * cN q) x) (mRecF pf (mCf f bf 7) st) af (mCf f bf 7) tx) H := by rw [show mSeR r (Rw * Cl) (404 + 7 * cN q) x = mGs (mSe4 r (404 + 7 * cN q) x) (Rw * Cl) (cN x) ((mSe4 r (404 + 7 * cN q) x) (404 + (7 * (cN q)) + 0)) ((mSe4 r (404 + 7 * cN q) x) (404 + (7 * (cN q)) + 5)) from by unfold mSeR; rw [if_pos hxx]]; exact hP
            replace hD : va_D (va_A (mW G ad (nI st) iA iL iT iC iR r pr ar br f pf af bf tx) s.heap.size) (mW G ad (nI (mRecN st)) iA iL iT iC iR (mSeR r (Rw * Cl) (404 + 7 * cN q) x) (mRecP pr (mCp r br 592) st) ar (mCp r br 592) (mSeF r f (404 + 7 * cN q) x) (mRecF pf (mCf f bf 7) st) af (mCf f bf 7) tx) := mD_any hD
            refine lv_aload_n hx hb dX5_settle_167 rfl (lv_at hl 1 rfl) ?_
            refine va_get (D := G.1) (ci := 12) (v := .ref (ad 1)) (C := RX5) (T := TX5) (N := 15) hx hb hts in_X5 hown hE.1 hP 0 rfl rfl 0 (by decide) (hts _ q1135) (fun _ h9 => h9) rfl dX5_settle_168 ?_
            refine lv_iload_n hx hb dX5_settle_171 rfl (lv_at hl 0 rfl) ?_
            refine lv_iconst (v := 0) hx hb dX5_settle_172 (by decide) ?_
            refine ol_iadd hx hb (404 + (7 * (cN q))) 0 dX5_settle_173 ?_
            refine ol_iald hx hb hE.1 hP 1 0 rfl rfl (404 + (7 * (cN q)) + 0) (by omega) (by decide) dX5_settle_174 ?_
            have hN : mSeN r q x = false := by unfold mSeN; rw [c_5, c_16, decide_eq_true c_39]; rfl
            exact ol_iretE hx hb hr hlocks ⟨congrArg (fun z => some (Value.int z)) (by unfold mSeV; rw [if_neg (by rw [c_5]; decide), if_pos c_16, if_pos c_39]), (by simp only [hN, Bool.false_eq_true, if_false])⟩ hP hD hS dX5_settle_175
      · refine lv_bipush (v := (-4)) hx hb dX5_settle_42 (by decide) ?_
        exact ol_iretE hx hb hr hlocks ⟨congrArg (fun z => some (Value.int z)) (by simp [mSeN, mSeV, zB, c_5, c_16, c_39, Int32.not_lt.mp c_39]), (by simp [mSeN, mSeV, zB, c_5, c_16, c_39, Int32.not_lt.mp c_39])⟩ hP hD hS dX5_settle_44
    · refine lv_bipush (v := (-2)) hx hb dX5_settle_19 (by decide) ?_
      exact ol_iretE hx hb hr hlocks ⟨congrArg (fun z => some (Value.int z)) (by simp [mSeN, mSeV, zB, c_5, c_16]), (by simp [mSeN, mSeV, zB, c_5, c_16])⟩ hP hD hS dX5_settle_21
  · refine lv_iconst (v := (-1)) hx hb dX5_settle_8 (by decide) ?_
    exact ol_iretE hx hb hr hlocks ⟨congrArg (fun z => some (Value.int z)) (by simp [mSeN, mSeV, zB, c_5]), (by simp [mSeN, mSeV, zB, c_5])⟩ hP hD hS dX5_settle_9
