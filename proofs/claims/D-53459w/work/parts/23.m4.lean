/-! THE REFERENCE: learning, signs, counts, the end of a stroke, driving -/
theorem vu_s {f : Nat → UInt32} {k : Nat} {x : UInt32} : vf_upd f k x k = x := if_pos rfl
theorem vu_n {f : Nat → UInt32} {k j : Nat} {x : UInt32} (h : j ≠ k) : vf_upd f k x j = f j := if_neg h
def mLnR (r : Nat → Int32) (q : Nat) (x : Int32) : Nat → Int32 := upd r (3 + q) x
def mLnF (r : Nat → Int32) (f : Nat → UInt32) (q : Nat) (x v : Int32) : Nat → UInt32 := if mGap r q x < 0 then vf_upd f (0 + q) (lrnF (f (0 + q)) (f 6) v) else vf_upd (vf_upd f (0 + q) (lrnF (f (0 + q)) (f 6) v)) (2 + q) (lrnF (f (2 + q)) (f 6) (mGap r q x))
/-- bit q of what was noted -/
def nbit (x : Int32) (q : Nat) : Bool := decide ((x >>> (nI q &&& 31)) &&& 1 = 1)
def mLarge (r : Nat → Int32) (q : Nat) (x : Int32) : Bool := nbit x q || (decide (r (7 + q) = 1) && nbit x (1 - q))
def mGs (r : Nat → Int32) (n q : Nat) (k x : Int32) : Nat → Int32 := if noK k n = true then r else if r (260 + cN k) = 46 then r else
  upd (upd r (544 + 24 * q + cN (r (17 + q)) % 24) (if mLarge r q x = true then r (260 + cN k) - 32 else r (260 + cN k) - 0)) (17 + q) (upd r (544 + 24 * q + cN (r (17 + q)) % 24) (if mLarge r q x = true then r (260 + cN k) - 32 else r (260 + cN k) - 0) (17 + q) + 1)
def mCnA (r : Nat → Int32) (b : Nat) : Nat → Int32 := upd r (10 + b) (r (10 + b) + 1)
def mCnG (r : Nat → Int32) : Nat → Int32 := upd r 14 (r 14 + 1)
def mCnt (r : Nat → Int32) (b h : Int32) : Nat → Int32 := if b < 2 then (if h = b then upd (mCnA r (cN b)) (12 + cN b) (mCnA r (cN b) (12 + cN b) + 1) else upd (mCnA r (cN b)) (12 + cN b) (mCnA r (cN b) (12 + cN b) + 0))
  else if b = 2 then (if h < 0 then upd (mCnG r) 15 (mCnG r 15 + 1) else upd (mCnG r) 15 (mCnG r 15 + 0)) else r
theorem lt2 {b : Int32} (h : ¬ b < 0) (h2 : b < 2) : cN b < 2 ∧ b = nI (cN b) := by
  obtain ⟨e, hj⟩ := nn_of h
  have h3 := h2
  rw [e, show (2 : Int32) = nI 2 from rfl, nI_ltI hj (by decide)] at h3
  exact ⟨h3, e⟩
set_option maxHeartbeats 4000000 in
set_option maxRecDepth 100000 in
theorem mm_learn (l : Launch) (G : oG) (ad : Nat → Nat) (iS : Int32) (iA : Int32) (iL : Int32) (iT : Int32) (iC : Int32) (iR : Int32) (r : Nat → Int32) (pr : Nat → Int32) (ar : Nat → Int32) (br : Nat → Int32) (f : Nat → UInt32) (pf : Nat → UInt32) (af : Nat → UInt32) (bf : Nat → UInt32) (tx : Nat → Int32) (q : Nat) (x : Int32) (v : Int32)  (hq : q < 2) (hm : mFo f) (hrt : fR (f 6)) (sz : Nat) : Met l yX5_learn (ws_ yX5_learn cX5_learn 5 none) ({ frames := 1, cells := 0, slots := 0, locals := 23 }) (oPc G [.ref (ad 0), .int (nI q), .int x, .int v] (oPE G (mW G ad iS iA iL iT iC iR r pr ar br f pf af bf tx) sz (fun _ => True))) (oE G (fun v_ W_ => v_ = none ∧ W_ = mW G ad iS iA iL iT iC iR (mLnR r q x) pr ar br (mLnF r f q x v) pf af bf tx) (mW G ad iS iA iL iT iC iR r pr ar br f pf af bf tx) sz) 0 0 (va_A (mW G ad iS iA iL iT iC iR r pr ar br f pf af bf tx) sz) := by
  refine Met.ofW (cc := cX5_learn) (maxL := 5) (ret := none) (by decide) rfl ?_
  intro p e s m args below meth c s₁ B hml hv
  obtain ⟨rfl, ⟨hsz, hP, hD0, hX⟩, hE⟩ := hv
  have hx := B.exec
  have hb := B.bytes
  have hr := B.returns
  have hts := atoms_spec (ws := ws_ yX5_learn cX5_learn 5 none) B.pre
  have hts : ∀ w ∈ lw_all, w.before _ s = true := fun w h => hts w (List.mem_cons_of_mem _ h)
  have hown : s.vm.findClass RX5 = some m.cls := findClass_of_methodNamed B.named
  have hlocks := B.notSynchronized
  subst hsz
  have hD := hD0.self (sz := s.heap.size)
  have hA : ∀ q : Nat, s.heap.size ≤ q → va_A (mW G ad iS iA iL iT iC iR r pr ar br f pf af bf tx) s.heap.size q := fun q h => Or.inr h
  have hl := lv_entry ([.ref (ad 0), .int (nI q), .int x, .int v]) (n := 5) (Nat.le_of_ble_eq_true rfl)
  rw [lg_entry_eq]
  generalize (lg_sl ([.ref (ad 0), .int (nI q), .int x, .int v]) ++ List.replicate (5 - (lg_sl ([.ref (ad 0), .int (nI q), .int x, .int v])).length) Slot.unset).toArray = ls at hl ⊢
  replace hl : lv_has ls 5 [(0, .ref (ad 0)), (1, .int (nI q)), (2, .int x), (3, .int v)] := hl
  refine ol_start (A := va_A (mW G ad iS iA iL iT iC iR r pr ar br f pf af bf tx) s.heap.size) (fun H locs hH hS => ?_)
  rw [← hH] at hP
  clear hH
  refine lv_aload_n hx hb dX5_learn_0 rfl (lv_at hl 0 rfl) ?_
  refine lv_iload_n hx hb dX5_learn_1 rfl (lv_at hl 1 rfl) ?_
  refine lv_iload_n hx hb dX5_learn_2 rfl (lv_at hl 2 rfl) ?_
  refine ol_cR (st1 := [.int (mGap r q x)]) (va_runV (As := [.int (nI q), .int x]) (rest := []) ⟨hx, hb, hml, hown, hts⟩ (mr_gap l G ad iS iA iL iT iC iR r pr ar br f pf af bf tx q x (by omega)) (cwV 2 hts (lw_V q1315 q1317 qs40 q73 q1318) rfl rfl rfl (by decide +kernel) ⟨Nat.le_of_ble_eq_true rfl, Nat.le_of_ble_eq_true rfl⟩) (oPc.preV hE (hE.recv (ci := 12) (hP 0 _ rfl) rfl) hP) rfl rfl hl.1 rfl (lv_room (Nat.le_of_ble_eq_true rfl)) dX5_learn_3 ⟨Nat.le_of_ble_eq_true rfl, Nat.le_of_ble_eq_true rfl⟩) rfl ?_
  refine lv_istore (lv' := [(4, .int (mGap r q x)), (0, .ref (ad 0)), (1, .int (nI q)), (2, .int x), (3, .int v)]) hx hb dX5_learn_6 hl (by decide) rfl (fun ls hl => ?_)
  refine lv_aload_n hx hb dX5_learn_8 rfl (lv_at hl 1 rfl) ?_
  refine va_get (D := G.1) (ci := 12) (v := .ref (ad 5)) (C := RX5) (T := TX5) (N := 15) hx hb hts in_X5 hown hE.1 hP 0 rfl rfl 4 (by decide) (hts _ q1139) (fun _ h9 => h9) rfl dX5_learn_9 ?_
  refine lv_iconst (v := 0) hx hb dX5_learn_12 (by decide) ?_
  refine lv_iload_n hx hb dX5_learn_13 rfl (lv_at hl 2 rfl) ?_
  refine ol_iadd hx hb 0 q dX5_learn_14 ?_
  refine lv_aload_n hx hb dX5_learn_15 rfl (lv_at hl 1 rfl) ?_
  refine lv_aload_n hx hb dX5_learn_16 rfl (lv_at hl 1 rfl) ?_
  refine va_get (D := G.1) (ci := 12) (v := .ref (ad 5)) (C := RX5) (T := TX5) (N := 15) hx hb hts in_X5 hown hE.1 hP 0 rfl rfl 4 (by decide) (hts _ q1139) (fun _ h9 => h9) rfl dX5_learn_17 ?_
  refine lv_iconst (v := 0) hx hb dX5_learn_20 (by decide) ?_
  refine lv_iload_n hx hb dX5_learn_21 rfl (lv_at hl 2 rfl) ?_
  refine ol_iadd hx hb 0 q dX5_learn_22 ?_
  refine ol_fald hx hb hE.1 hP 5 2 rfl rfl (0 + q) (by omega) (by decide) dX5_learn_23 ?_
  refine lv_iload_n hx hb dX5_learn_24 rfl (lv_at hl 4 rfl) ?_
  refine ol_cR (st1 := [.float (lrnF (f (0 + q)) (f 6) v), .int (nI (0 + q)), .ref (ad 5)]) (va_runV (As := [.float (f (0 + q)), .int v]) (rest := [.int (nI (0 + q)), .ref (ad 5)]) ⟨hx, hb, hml, hown, hts⟩ (mr_learned l G ad iS iA iL iT iC iR r pr ar br f pf af bf tx (f (0 + q)) v (hm q hq).1 hrt) (cwV 2 hts (lw_V q1327 q1329 qs43 q73 q1330) rfl rfl rfl (by decide +kernel) ⟨Nat.le_of_ble_eq_true rfl, Nat.le_of_ble_eq_true rfl⟩) (oPc.preV hE (hE.recv (ci := 12) (hP 0 _ rfl) rfl) hP) rfl rfl hl.1 rfl (lv_room (Nat.le_of_ble_eq_true rfl)) dX5_learn_25 ⟨Nat.le_of_ble_eq_true rfl, Nat.le_of_ble_eq_true rfl⟩) rfl ?_
  refine ol_fast hx hb hE.1 hP hD hS 5 2 rfl rfl (0 + q) (by omega) (by decide) dX5_learn_28 (fun H locs hP hD hS => ?_)
  replace hP : va_P G.1 cl0 (mW G ad iS iA iL iT iC iR r pr ar br (vf_upd f (0 + q) (lrnF (f (0 + q)) (f 6) v)) pf af bf tx) H := hP
  replace hD : va_D (va_A (mW G ad iS iA iL iT iC iR r pr ar br f pf af bf tx) s.heap.size) (mW G ad iS iA iL iT iC iR r pr ar br (vf_upd f (0 + q) (lrnF (f (0 + q)) (f 6) v)) pf af bf tx) := hD
  refine lv_iload hx hb dX5_learn_29 (lv_at hl 0 rfl) ?_
  refine lv_if_lt (tgt := 56) hx hb dX5_learn_31 (by decide) (fun c_31 => ?_) (fun c_31 => ?_)
  · refine lv_aload_n hx hb dX5_learn_56 rfl (lv_at hl 1 rfl) ?_
    refine va_get (D := G.1) (ci := 12) (v := .ref (ad 1)) (C := RX5) (T := TX5) (N := 15) hx hb hts in_X5 hown hE.1 hP 0 rfl rfl 0 (by decide) (hts _ q1135) (fun _ h9 => h9) rfl dX5_learn_57 ?_
    refine lv_iconst (v := 3) hx hb dX5_learn_60 (by decide) ?_
    refine lv_iload_n hx hb dX5_learn_61 rfl (lv_at hl 2 rfl) ?_
    refine ol_iadd hx hb 3 q dX5_learn_62 ?_
    refine lv_iload_n hx hb dX5_learn_63 rfl (lv_at hl 3 rfl) ?_
    refine ol_iast hx hb hE.1 hP hD hS 1 0 rfl rfl (3 + q) (by omega) (by decide) dX5_learn_64 (fun H locs hP hD hS => ?_)
    replace hP : va_P G.1 cl0 (mW G ad iS iA iL iT iC iR (upd r (3 + q) x) pr ar br (vf_upd f (0 + q) (lrnF (f (0 + q)) (f 6) v)) pf af bf tx) H := hP
    replace hD : va_D (va_A (mW G ad iS iA iL iT iC iR r pr ar br f pf af bf tx) s.heap.size) (mW G ad iS iA iL iT iC iR (upd r (3 + q) x) pr ar br (vf_upd f (0 + q) (lrnF (f (0 + q)) (f 6) v)) pf af bf tx) := hD
    exact ol_vretE hx hb hr hlocks ⟨rfl, (by simp [mLnR, mLnF, c_31, Int32.not_le.mpr c_31] <;> first | rfl | (rw [vu_n (by omega)]))⟩ hP hD hS dX5_learn_65
  · refine lv_aload_n hx hb dX5_learn_34 rfl (lv_at hl 1 rfl) ?_
    refine va_get (D := G.1) (ci := 12) (v := .ref (ad 5)) (C := RX5) (T := TX5) (N := 15) hx hb hts in_X5 hown hE.1 hP 0 rfl rfl 4 (by decide) (hts _ q1139) (fun _ h9 => h9) rfl dX5_learn_35 ?_
    refine lv_iconst (v := 2) hx hb dX5_learn_38 (by decide) ?_
    refine lv_iload_n hx hb dX5_learn_39 rfl (lv_at hl 2 rfl) ?_
    refine ol_iadd hx hb 2 q dX5_learn_40 ?_
    refine lv_aload_n hx hb dX5_learn_41 rfl (lv_at hl 1 rfl) ?_
    refine lv_aload_n hx hb dX5_learn_42 rfl (lv_at hl 1 rfl) ?_
    refine va_get (D := G.1) (ci := 12) (v := .ref (ad 5)) (C := RX5) (T := TX5) (N := 15) hx hb hts in_X5 hown hE.1 hP 0 rfl rfl 4 (by decide) (hts _ q1139) (fun _ h9 => h9) rfl dX5_learn_43 ?_
    refine lv_iconst (v := 2) hx hb dX5_learn_46 (by decide) ?_
    refine lv_iload_n hx hb dX5_learn_47 rfl (lv_at hl 2 rfl) ?_
    refine ol_iadd hx hb 2 q dX5_learn_48 ?_
    refine ol_fald hx hb hE.1 hP 5 2 rfl rfl (2 + q) (by omega) (by decide) dX5_learn_49 ?_
    have em2 : (vf_upd f (0 + q) (lrnF (f (0 + q)) (f 6) v)) (2 + q) = f (2 + q) := vu_n (by omega)
    have hm2 : fOK (f (2 + q)) := (hm q hq).2
    have em6 : vf_upd f (0 + q) (lrnF (f (0 + q)) (f 6) v) 6 = f 6 := vu_n (by omega)
    have hrt2 : fR (vf_upd f (0 + q) (lrnF (f (0 + q)) (f 6) v) 6) := by rw [em6]; exact hrt
    refine ol_topf (y := f (2 + q)) em2 ?_
    refine lv_iload hx hb dX5_learn_50 (lv_at hl 0 rfl) ?_
    refine ol_cR (st1 := [.float (lrnF (f (2 + q)) ((vf_upd f (0 + q) (lrnF (f (0 + q)) (f 6) v)) 6) (mGap r q x)), .int (nI (2 + q)), .ref (ad 5)]) (va_runV (As := [.float (f (2 + q)), .int (mGap r q x)]) (rest := [.int (nI (2 + q)), .ref (ad 5)]) ⟨hx, hb, hml, hown, hts⟩ (mr_learned l G ad iS iA iL iT iC iR r pr ar br (vf_upd f (0 + q) (lrnF (f (0 + q)) (f 6) v)) pf af bf tx (f (2 + q)) (mGap r q x) hm2 hrt2) (cwV 2 hts (lw_V q1327 q1329 qs43 q73 q1330) rfl rfl rfl (by decide +kernel) ⟨Nat.le_of_ble_eq_true rfl, Nat.le_of_ble_eq_true rfl⟩) (oPc.preV hE (hE.recv (ci := 12) (hP 0 _ rfl) rfl) hP) rfl rfl hl.1 rfl (lv_room (Nat.le_of_ble_eq_true rfl)) dX5_learn_52 ⟨Nat.le_of_ble_eq_true rfl, Nat.le_of_ble_eq_true rfl⟩) rfl ?_
    refine ol_fast hx hb hE.1 hP hD hS 5 2 rfl rfl (2 + q) (by omega) (by decide) dX5_learn_55 (fun H locs hP hD hS => ?_)
    replace hP : va_P G.1 cl0 (mW G ad iS iA iL iT iC iR r pr ar br (vf_upd (vf_upd f (0 + q) (lrnF (f (0 + q)) (f 6) v)) (2 + q) (lrnF (f (2 + q)) ((vf_upd f (0 + q) (lrnF (f (0 + q)) (f 6) v)) 6) (mGap r q x))) pf af bf tx) H := hP
    replace hD : va_D (va_A (mW G ad iS iA iL iT iC iR r pr ar br f pf af bf tx) s.heap.size) (mW G ad iS iA iL iT iC iR r pr ar br (vf_upd (vf_upd f (0 + q) (lrnF (f (0 + q)) (f 6) v)) (2 + q) (lrnF (f (2 + q)) ((vf_upd f (0 + q) (lrnF (f (0 + q)) (f 6) v)) 6) (mGap r q x))) pf af bf tx) := hD
    refine lv_aload_n hx hb dX5_learn_56 rfl (lv_at hl 1 rfl) ?_
    refine va_get (D := G.1) (ci := 12) (v := .ref (ad 1)) (C := RX5) (T := TX5) (N := 15) hx hb hts in_X5 hown hE.1 hP 0 rfl rfl 0 (by decide) (hts _ q1135) (fun _ h9 => h9) rfl dX5_learn_57 ?_
    refine lv_iconst (v := 3) hx hb dX5_learn_60 (by decide) ?_
    refine lv_iload_n hx hb dX5_learn_61 rfl (lv_at hl 2 rfl) ?_
    refine ol_iadd hx hb 3 q dX5_learn_62 ?_
    refine lv_iload_n hx hb dX5_learn_63 rfl (lv_at hl 3 rfl) ?_
    refine ol_iast hx hb hE.1 hP hD hS 1 0 rfl rfl (3 + q) (by omega) (by decide) dX5_learn_64 (fun H locs hP hD hS => ?_)
    replace hP : va_P G.1 cl0 (mW G ad iS iA iL iT iC iR (upd r (3 + q) x) pr ar br (vf_upd (vf_upd f (0 + q) (lrnF (f (0 + q)) (f 6) v)) (2 + q) (lrnF (f (2 + q)) ((vf_upd f (0 + q) (lrnF (f (0 + q)) (f 6) v)) 6) (mGap r q x))) pf af bf tx) H := hP
    replace hD : va_D (va_A (mW G ad iS iA iL iT iC iR r pr ar br f pf af bf tx) s.heap.size) (mW G ad iS iA iL iT iC iR (upd r (3 + q) x) pr ar br (vf_upd (vf_upd f (0 + q) (lrnF (f (0 + q)) (f 6) v)) (2 + q) (lrnF (f (2 + q)) ((vf_upd f (0 + q) (lrnF (f (0 + q)) (f 6) v)) 6) (mGap r q x))) pf af bf tx) := hD
    exact ol_vretE hx hb hr hlocks ⟨rfl, (by simp [mLnR, mLnF, c_31, Int32.not_lt.mp c_31] <;> first | rfl | (rw [vu_n (by omega)]))⟩ hP hD hS dX5_learn_65
set_option maxHeartbeats 4000000 in
set_option maxRecDepth 100000 in
theorem mm_giveSign (l : Launch) (G : oG) (ad : Nat → Nat) (iS : Int32) (iA : Int32) (iL : Int32) (iT : Int32) (iC : Int32) (iR : Int32) (r : Nat → Int32) (pr : Nat → Int32) (ar : Nat → Int32) (br : Nat → Int32) (f : Nat → UInt32) (pf : Nat → UInt32) (af : Nat → UInt32) (bf : Nat → UInt32) (tx : Nat → Int32) (q : Nat) (k : Int32) (x : Int32) (Rw Cl : Nat) (hq : q < 2) (hg : mG r Rw Cl) (hty : mTy r) (sz : Nat) : Met l yX5_giveSign (ws_ yX5_giveSign cX5_giveSign 5 none) ({ frames := 2, cells := 0, slots := 0, locals := 43 }) (oPc G [.ref (ad 0), .int (nI q), .int k, .int x] (oPE G (mW G ad iS iA iL iT iC iR r pr ar br f pf af bf tx) sz (fun _ => True))) (oE G (fun v_ W_ => v_ = none ∧ W_ = mW G ad iS iA iL iT iC iR (mGs r (Rw * Cl) q k x) pr ar br f pf af bf tx) (mW G ad iS iA iL iT iC iR r pr ar br f pf af bf tx) sz) 0 0 (va_A (mW G ad iS iA iL iT iC iR r pr ar br f pf af bf tx) sz) := by
  refine Met.ofW (cc := cX5_giveSign) (maxL := 5) (ret := none) (by decide) rfl ?_
  intro p e s m args below meth c s₁ B hml hv
  obtain ⟨rfl, ⟨hsz, hP, hD0, hX⟩, hE⟩ := hv
  have hx := B.exec
  have hb := B.bytes
  have hr := B.returns
  have hts := atoms_spec (ws := ws_ yX5_giveSign cX5_giveSign 5 none) B.pre
  have hts : ∀ w ∈ lw_all, w.before _ s = true := fun w h => hts w (List.mem_cons_of_mem _ h)
  have hown : s.vm.findClass RX5 = some m.cls := findClass_of_methodNamed B.named
  have hlocks := B.notSynchronized
  subst hsz
  have hD := hD0.self (sz := s.heap.size)
  have hA : ∀ q : Nat, s.heap.size ≤ q → va_A (mW G ad iS iA iL iT iC iR r pr ar br f pf af bf tx) s.heap.size q := fun q h => Or.inr h
  have hl := lv_entry ([.ref (ad 0), .int (nI q), .int k, .int x]) (n := 5) (Nat.le_of_ble_eq_true rfl)
  rw [lg_entry_eq]
  generalize (lg_sl ([.ref (ad 0), .int (nI q), .int k, .int x]) ++ List.replicate (5 - (lg_sl ([.ref (ad 0), .int (nI q), .int k, .int x])).length) Slot.unset).toArray = ls at hl ⊢
  replace hl : lv_has ls 5 [(0, .ref (ad 0)), (1, .int (nI q)), (2, .int k), (3, .int x)] := hl
  refine ol_start (A := va_A (mW G ad iS iA iL iT iC iR r pr ar br f pf af bf tx) s.heap.size) (fun H locs hH hS => ?_)
  rw [← hH] at hP
  clear hH
  have hgn := mG_n hg
  have hg' := hg
  obtain ⟨hg0, hg1, hg2, hg3, hg4, hg5⟩ := hg'
  refine lv_aload_n hx hb dX5_giveSign_0 rfl (lv_at hl 0 rfl) ?_
  refine lv_iload_n hx hb dX5_giveSign_1 rfl (lv_at hl 2 rfl) ?_
  refine ol_cR (st1 := [.int (zB (noK k (Rw * Cl)))]) (va_runV (As := [.int k]) (rest := []) ⟨hx, hb, hml, hown, hts⟩ (mr_noKey l G ad iS iA iL iT iC iR r pr ar br f pf af bf tx k Rw Cl hg) (cwV 1 hts (lw_V q1229 q1231 qs28 q73 q1232) rfl rfl rfl (by decide +kernel) ⟨Nat.le_of_ble_eq_true rfl, Nat.le_of_ble_eq_true rfl⟩) (oPc.preV hE (hE.recv (ci := 12) (hP 0 _ rfl) rfl) hP) rfl rfl hl.1 rfl (lv_room (Nat.le_of_ble_eq_true rfl)) dX5_giveSign_2 ⟨Nat.le_of_ble_eq_true rfl, Nat.le_of_ble_eq_true rfl⟩) rfl ?_
  refine ol_if_neB hx hb (noK k (Rw * Cl)) (tgt := 23) dX5_giveSign_5 (by decide) (fun c_5 => ?_) (fun c_5 => ?_)
  · exact ol_vretE hx hb hr hlocks ⟨rfl, (by simp [mGs, mLarge, nbit, zB, c_5])⟩ hP hD hS dX5_giveSign_23
  · obtain ⟨hk1, hk2⟩ := noK_f (c_5) (by omega) (by omega)
    refine lv_aload_n hx hb dX5_giveSign_8 rfl (lv_at hl 0 rfl) ?_
    refine va_get (D := G.1) (ci := 12) (v := .ref (ad 1)) (C := RX5) (T := TX5) (N := 15) hx hb hts in_X5 hown hE.1 hP 0 rfl rfl 0 (by decide) (hts _ q1135) (fun _ h9 => h9) rfl dX5_giveSign_9 ?_
    refine lv_sipush (v := 260) hx hb dX5_giveSign_12 (by decide) ?_
    refine lv_iload_n hx hb dX5_giveSign_15 rfl (lv_at hl 2 rfl) ?_
    refine ol_top (y := nI (cN k)) hk2 ?_
    refine ol_iadd hx hb 260 (cN k) dX5_giveSign_16 ?_
    refine ol_iald hx hb hE.1 hP 1 0 rfl rfl (260 + (cN k)) (by omega) (by decide) dX5_giveSign_17 ?_
    refine lv_bipush (v := 46) hx hb dX5_giveSign_18 (by decide) ?_
    refine lv_icmp_ne (tgt := 24) hx hb dX5_giveSign_20 (by decide) (fun c_20 => ?_) (fun c_20 => ?_)
    · refine lv_iload_n hx hb dX5_giveSign_24 rfl (lv_at hl 3 rfl) ?_
      refine lv_iload_n hx hb dX5_giveSign_25 rfl (lv_at hl 1 rfl) ?_
      refine lv_ishr hx hb dX5_giveSign_26 ?_
      refine lv_iconst (v := 1) hx hb dX5_giveSign_27 (by decide) ?_
      refine lv_iand hx hb dX5_giveSign_28 ?_
      refine lv_iconst (v := 1) hx hb dX5_giveSign_29 (by decide) ?_
      refine lv_icmp_eq (tgt := 57) hx hb dX5_giveSign_30 (by decide) (fun c_30 => ?_) (fun c_30 => ?_)
      · refine lv_iconst (v := 1) hx hb dX5_giveSign_57 (by decide) ?_
        refine lv_goto (tgt := 62) hx hb dX5_giveSign_58 (by decide) ?_
        refine lv_istore (lv' := [(4, .int 1), (0, .ref (ad 0)), (1, .int (nI q)), (2, .int k), (3, .int x)]) hx hb dX5_giveSign_62 hl (by decide) rfl (fun ls hl => ?_)
        refine lv_aload_n hx hb dX5_giveSign_64 rfl (lv_at hl 1 rfl) ?_
        refine va_get (D := G.1) (ci := 12) (v := .ref (ad 1)) (C := RX5) (T := TX5) (N := 15) hx hb hts in_X5 hown hE.1 hP 0 rfl rfl 0 (by decide) (hts _ q1135) (fun _ h9 => h9) rfl dX5_giveSign_65 ?_
        refine lv_sipush (v := 544) hx hb dX5_giveSign_68 (by decide) ?_
        refine lv_bipush (v := 24) hx hb dX5_giveSign_71 (by decide) ?_
        refine lv_iload_n hx hb dX5_giveSign_73 rfl (lv_at hl 2 rfl) ?_
        refine ol_imul hx hb 24 q dX5_giveSign_74 ?_
        refine ol_iadd hx hb 544 (24 * q) dX5_giveSign_75 ?_
        refine lv_aload_n hx hb dX5_giveSign_76 rfl (lv_at hl 1 rfl) ?_
        refine va_get (D := G.1) (ci := 12) (v := .ref (ad 1)) (C := RX5) (T := TX5) (N := 15) hx hb hts in_X5 hown hE.1 hP 0 rfl rfl 0 (by decide) (hts _ q1135) (fun _ h9 => h9) rfl dX5_giveSign_77 ?_
        refine lv_bipush (v := 17) hx hb dX5_giveSign_80 (by decide) ?_
        refine lv_iload_n hx hb dX5_giveSign_82 rfl (lv_at hl 2 rfl) ?_
        refine ol_iadd hx hb 17 q dX5_giveSign_83 ?_
        refine ol_iald hx hb hE.1 hP 1 0 rfl rfl (17 + q) (by omega) (by decide) dX5_giveSign_84 ?_
        obtain ⟨hn1, hn2⟩ := nn_of (hty _ hq)
        refine ol_top (y := nI (cN (r (17 + q)))) hn1 ?_
        refine lv_bipush (v := 24) hx hb dX5_giveSign_85 (by decide) ?_
        refine ol_irem hx hb (cN (r (17 + q))) 24 (by omega) (by omega) (by omega) dX5_giveSign_87 ?_
        refine ol_iadd hx hb (544 + (24 * q)) ((cN (r (17 + q))) % 24) dX5_giveSign_88 ?_
        refine lv_aload_n hx hb dX5_giveSign_89 rfl (lv_at hl 1 rfl) ?_
        refine va_get (D := G.1) (ci := 12) (v := .ref (ad 1)) (C := RX5) (T := TX5) (N := 15) hx hb hts in_X5 hown hE.1 hP 0 rfl rfl 0 (by decide) (hts _ q1135) (fun _ h9 => h9) rfl dX5_giveSign_90 ?_
        refine lv_sipush (v := 260) hx hb dX5_giveSign_93 (by decide) ?_
        refine lv_iload_n hx hb dX5_giveSign_96 rfl (lv_at hl 3 rfl) ?_
        refine ol_top (y := nI (cN k)) hk2 ?_
        refine ol_iadd hx hb 260 (cN k) dX5_giveSign_97 ?_
        refine ol_iald hx hb hE.1 hP 1 0 rfl rfl (260 + (cN k)) (by omega) (by decide) dX5_giveSign_98 ?_
        refine lv_iload hx hb dX5_giveSign_99 (lv_at hl 0 rfl) ?_
        refine ol_if_eq hx hb 1 (by omega) (tgt := 109) dX5_giveSign_101 (by decide) (fun c_101 => ?_) (fun c_101 => ?_)
        · exact absurd c_101 (by decide)
        · refine lv_bipush (v := 32) hx hb dX5_giveSign_104 (by decide) ?_
          refine lv_goto (tgt := 110) hx hb dX5_giveSign_106 (by decide) ?_
          refine lv_isub hx hb dX5_giveSign_110 ?_
          refine ol_iast hx hb hE.1 hP hD hS 1 0 rfl rfl (544 + (24 * q) + ((cN (r (17 + q))) % 24)) (by omega) (by decide) dX5_giveSign_111 (fun H locs hP hD hS => ?_)
          replace hP : va_P G.1 cl0 (mW G ad iS iA iL iT iC iR (upd r (544 + (24 * q) + ((cN (r (17 + q))) % 24)) ((r (260 + (cN k))) - 32)) pr ar br f pf af bf tx) H := hP
          replace hD : va_D (va_A (mW G ad iS iA iL iT iC iR r pr ar br f pf af bf tx) s.heap.size) (mW G ad iS iA iL iT iC iR (upd r (544 + (24 * q) + ((cN (r (17 + q))) % 24)) ((r (260 + (cN k))) - 32)) pr ar br f pf af bf tx) := hD
          refine lv_aload_n hx hb dX5_giveSign_112 rfl (lv_at hl 1 rfl) ?_
          refine va_get (D := G.1) (ci := 12) (v := .ref (ad 1)) (C := RX5) (T := TX5) (N := 15) hx hb hts in_X5 hown hE.1 hP 0 rfl rfl 0 (by decide) (hts _ q1135) (fun _ h9 => h9) rfl dX5_giveSign_113 ?_
          refine lv_bipush (v := 17) hx hb dX5_giveSign_116 (by decide) ?_
          refine lv_iload_n hx hb dX5_giveSign_118 rfl (lv_at hl 2 rfl) ?_
          refine ol_iadd hx hb 17 q dX5_giveSign_119 ?_
          refine lv_dup2_11 hx hb dX5_giveSign_120 rfl rfl ?_
          refine ol_iald hx hb hE.1 hP 1 0 rfl rfl (17 + q) (by omega) (by decide) dX5_giveSign_121 ?_
          refine lv_iconst (v := 1) hx hb dX5_giveSign_122 (by decide) ?_
          refine lv_iadd hx hb dX5_giveSign_123 ?_
          refine ol_iast hx hb hE.1 hP hD hS 1 0 rfl rfl (17 + q) (by omega) (by decide) dX5_giveSign_124 (fun H locs hP hD hS => ?_)
          replace hP : va_P G.1 cl0 (mW G ad iS iA iL iT iC iR (upd (upd r (544 + (24 * q) + ((cN (r (17 + q))) % 24)) ((r (260 + (cN k))) - 32)) (17 + q) (((upd r (544 + (24 * q) + ((cN (r (17 + q))) % 24)) ((r (260 + (cN k))) - 32)) (17 + q)) + 1)) pr ar br f pf af bf tx) H := hP
          replace hD : va_D (va_A (mW G ad iS iA iL iT iC iR r pr ar br f pf af bf tx) s.heap.size) (mW G ad iS iA iL iT iC iR (upd (upd r (544 + (24 * q) + ((cN (r (17 + q))) % 24)) ((r (260 + (cN k))) - 32)) (17 + q) (((upd r (544 + (24 * q) + ((cN (r (17 + q))) % 24)) ((r (260 + (cN k))) - 32)) (17 + q)) + 1)) pr ar br f pf af bf tx) := hD
          exact ol_vretE hx hb hr hlocks ⟨rfl, (by simp [mGs, mLarge, nbit, zB, c_5, c_20, c_30, c_101])⟩ hP hD hS dX5_giveSign_125
      · refine lv_aload_n hx hb dX5_giveSign_33 rfl (lv_at hl 0 rfl) ?_
        refine va_get (D := G.1) (ci := 12) (v := .ref (ad 1)) (C := RX5) (T := TX5) (N := 15) hx hb hts in_X5 hown hE.1 hP 0 rfl rfl 0 (by decide) (hts _ q1135) (fun _ h9 => h9) rfl dX5_giveSign_34 ?_
        refine lv_bipush (v := 7) hx hb dX5_giveSign_37 (by decide) ?_
        refine lv_iload_n hx hb dX5_giveSign_39 rfl (lv_at hl 1 rfl) ?_
        refine ol_iadd hx hb 7 q dX5_giveSign_40 ?_
        refine ol_iald hx hb hE.1 hP 1 0 rfl rfl (7 + q) (by omega) (by decide) dX5_giveSign_41 ?_
        refine lv_iconst (v := 1) hx hb dX5_giveSign_42 (by decide) ?_
        refine lv_icmp_ne (tgt := 61) hx hb dX5_giveSign_43 (by decide) (fun c_43 => ?_) (fun c_43 => ?_)
        · refine lv_iconst (v := 0) hx hb dX5_giveSign_61 (by decide) ?_
          refine lv_istore (lv' := [(4, .int 0), (0, .ref (ad 0)), (1, .int (nI q)), (2, .int k), (3, .int x)]) hx hb dX5_giveSign_62 hl (by decide) rfl (fun ls hl => ?_)
          refine lv_aload_n hx hb dX5_giveSign_64 rfl (lv_at hl 1 rfl) ?_
          refine va_get (D := G.1) (ci := 12) (v := .ref (ad 1)) (C := RX5) (T := TX5) (N := 15) hx hb hts in_X5 hown hE.1 hP 0 rfl rfl 0 (by decide) (hts _ q1135) (fun _ h9 => h9) rfl dX5_giveSign_65 ?_
          refine lv_sipush (v := 544) hx hb dX5_giveSign_68 (by decide) ?_
          refine lv_bipush (v := 24) hx hb dX5_giveSign_71 (by decide) ?_
          refine lv_iload_n hx hb dX5_giveSign_73 rfl (lv_at hl 2 rfl) ?_
          refine ol_imul hx hb 24 q dX5_giveSign_74 ?_
          refine ol_iadd hx hb 544 (24 * q) dX5_giveSign_75 ?_
          refine lv_aload_n hx hb dX5_giveSign_76 rfl (lv_at hl 1 rfl) ?_
          refine va_get (D := G.1) (ci := 12) (v := .ref (ad 1)) (C := RX5) (T := TX5) (N := 15) hx hb hts in_X5 hown hE.1 hP 0 rfl rfl 0 (by decide) (hts _ q1135) (fun _ h9 => h9) rfl dX5_giveSign_77 ?_
          refine lv_bipush (v := 17) hx hb dX5_giveSign_80 (by decide) ?_
          refine lv_iload_n hx hb dX5_giveSign_82 rfl (lv_at hl 2 rfl) ?_
          refine ol_iadd hx hb 17 q dX5_giveSign_83 ?_
          refine ol_iald hx hb hE.1 hP 1 0 rfl rfl (17 + q) (by omega) (by decide) dX5_giveSign_84 ?_
          obtain ⟨hn1, hn2⟩ := nn_of (hty _ hq)
          refine ol_top (y := nI (cN (r (17 + q)))) hn1 ?_
          refine lv_bipush (v := 24) hx hb dX5_giveSign_85 (by decide) ?_
          refine ol_irem hx hb (cN (r (17 + q))) 24 (by omega) (by omega) (by omega) dX5_giveSign_87 ?_
          refine ol_iadd hx hb (544 + (24 * q)) ((cN (r (17 + q))) % 24) dX5_giveSign_88 ?_
          refine lv_aload_n hx hb dX5_giveSign_89 rfl (lv_at hl 1 rfl) ?_
          refine va_get (D := G.1) (ci := 12) (v := .ref (ad 1)) (C := RX5) (T := TX5) (N := 15) hx hb hts in_X5 hown hE.1 hP 0 rfl rfl 0 (by decide) (hts _ q1135) (fun _ h9 => h9) rfl dX5_giveSign_90 ?_
          refine lv_sipush (v := 260) hx hb dX5_giveSign_93 (by decide) ?_
          refine lv_iload_n hx hb dX5_giveSign_96 rfl (lv_at hl 3 rfl) ?_
          refine ol_top (y := nI (cN k)) hk2 ?_
          refine ol_iadd hx hb 260 (cN k) dX5_giveSign_97 ?_
          refine ol_iald hx hb hE.1 hP 1 0 rfl rfl (260 + (cN k)) (by omega) (by decide) dX5_giveSign_98 ?_
          refine lv_iload hx hb dX5_giveSign_99 (lv_at hl 0 rfl) ?_
          refine ol_if_eq hx hb 0 (by omega) (tgt := 109) dX5_giveSign_101 (by decide) (fun c_101 => ?_) (fun c_101 => ?_)
          · refine lv_iconst (v := 0) hx hb dX5_giveSign_109 (by decide) ?_
            refine lv_isub hx hb dX5_giveSign_110 ?_
            refine ol_iast hx hb hE.1 hP hD hS 1 0 rfl rfl (544 + (24 * q) + ((cN (r (17 + q))) % 24)) (by omega) (by decide) dX5_giveSign_111 (fun H locs hP hD hS => ?_)
            replace hP : va_P G.1 cl0 (mW G ad iS iA iL iT iC iR (upd r (544 + (24 * q) + ((cN (r (17 + q))) % 24)) ((r (260 + (cN k))) - 0)) pr ar br f pf af bf tx) H := hP
            replace hD : va_D (va_A (mW G ad iS iA iL iT iC iR r pr ar br f pf af bf tx) s.heap.size) (mW G ad iS iA iL iT iC iR (upd r (544 + (24 * q) + ((cN (r (17 + q))) % 24)) ((r (260 + (cN k))) - 0)) pr ar br f pf af bf tx) := hD
            refine lv_aload_n hx hb dX5_giveSign_112 rfl (lv_at hl 1 rfl) ?_
            refine va_get (D := G.1) (ci := 12) (v := .ref (ad 1)) (C := RX5) (T := TX5) (N := 15) hx hb hts in_X5 hown hE.1 hP 0 rfl rfl 0 (by decide) (hts _ q1135) (fun _ h9 => h9) rfl dX5_giveSign_113 ?_
            refine lv_bipush (v := 17) hx hb dX5_giveSign_116 (by decide) ?_
            refine lv_iload_n hx hb dX5_giveSign_118 rfl (lv_at hl 2 rfl) ?_
            refine ol_iadd hx hb 17 q dX5_giveSign_119 ?_
            refine lv_dup2_11 hx hb dX5_giveSign_120 rfl rfl ?_
            refine ol_iald hx hb hE.1 hP 1 0 rfl rfl (17 + q) (by omega) (by decide) dX5_giveSign_121 ?_
            refine lv_iconst (v := 1) hx hb dX5_giveSign_122 (by decide) ?_
            refine lv_iadd hx hb dX5_giveSign_123 ?_
            refine ol_iast hx hb hE.1 hP hD hS 1 0 rfl rfl (17 + q) (by omega) (by decide) dX5_giveSign_124 (fun H locs hP hD hS => ?_)
            replace hP : va_P G.1 cl0 (mW G ad iS iA iL iT iC iR (upd (upd r (544 + (24 * q) + ((cN (r (17 + q))) % 24)) ((r (260 + (cN k))) - 0)) (17 + q) (((upd r (544 + (24 * q) + ((cN (r (17 + q))) % 24)) ((r (260 + (cN k))) - 0)) (17 + q)) + 1)) pr ar br f pf af bf tx) H := hP
            replace hD : va_D (va_A (mW G ad iS iA iL iT iC iR r pr ar br f pf af bf tx) s.heap.size) (mW G ad iS iA iL iT iC iR (upd (upd r (544 + (24 * q) + ((cN (r (17 + q))) % 24)) ((r (260 + (cN k))) - 0)) (17 + q) (((upd r (544 + (24 * q) + ((cN (r (17 + q))) % 24)) ((r (260 + (cN k))) - 0)) (17 + q)) + 1)) pr ar br f pf af bf tx) := hD
            exact ol_vretE hx hb hr hlocks ⟨rfl, (by simp [mGs, mLarge, nbit, zB, c_5, c_20, c_30, c_43, c_101])⟩ hP hD hS dX5_giveSign_125
          · exact absurd c_101 (by decide)
        · refine lv_iload_n hx hb dX5_giveSign_46 rfl (lv_at hl 3 rfl) ?_
          refine lv_iconst (v := 1) hx hb dX5_giveSign_47 (by decide) ?_
          refine lv_iload_n hx hb dX5_giveSign_48 rfl (lv_at hl 1 rfl) ?_
          refine ol_isub hx hb 1 q (by omega) dX5_giveSign_49 ?_
          refine lv_ishr hx hb dX5_giveSign_50 ?_
          refine lv_iconst (v := 1) hx hb dX5_giveSign_51 (by decide) ?_
          refine lv_iand hx hb dX5_giveSign_52 ?_
          refine lv_iconst (v := 1) hx hb dX5_giveSign_53 (by decide) ?_
          refine lv_icmp_ne (tgt := 61) hx hb dX5_giveSign_54 (by decide) (fun c_54 => ?_) (fun c_54 => ?_)
          · refine lv_iconst (v := 0) hx hb dX5_giveSign_61 (by decide) ?_
            refine lv_istore (lv' := [(4, .int 0), (0, .ref (ad 0)), (1, .int (nI q)), (2, .int k), (3, .int x)]) hx hb dX5_giveSign_62 hl (by decide) rfl (fun ls hl => ?_)
            refine lv_aload_n hx hb dX5_giveSign_64 rfl (lv_at hl 1 rfl) ?_
            refine va_get (D := G.1) (ci := 12) (v := .ref (ad 1)) (C := RX5) (T := TX5) (N := 15) hx hb hts in_X5 hown hE.1 hP 0 rfl rfl 0 (by decide) (hts _ q1135) (fun _ h9 => h9) rfl dX5_giveSign_65 ?_
            refine lv_sipush (v := 544) hx hb dX5_giveSign_68 (by decide) ?_
            refine lv_bipush (v := 24) hx hb dX5_giveSign_71 (by decide) ?_
            refine lv_iload_n hx hb dX5_giveSign_73 rfl (lv_at hl 2 rfl) ?_
            refine ol_imul hx hb 24 q dX5_giveSign_74 ?_
            refine ol_iadd hx hb 544 (24 * q) dX5_giveSign_75 ?_
            refine lv_aload_n hx hb dX5_giveSign_76 rfl (lv_at hl 1 rfl) ?_
            refine va_get (D := G.1) (ci := 12) (v := .ref (ad 1)) (C := RX5) (T := TX5) (N := 15) hx hb hts in_X5 hown hE.1 hP 0 rfl rfl 0 (by decide) (hts _ q1135) (fun _ h9 => h9) rfl dX5_giveSign_77 ?_
            refine lv_bipush (v := 17) hx hb dX5_giveSign_80 (by decide) ?_
            refine lv_iload_n hx hb dX5_giveSign_82 rfl (lv_at hl 2 rfl) ?_
            refine ol_iadd hx hb 17 q dX5_giveSign_83 ?_
            refine ol_iald hx hb hE.1 hP 1 0 rfl rfl (17 + q) (by omega) (by decide) dX5_giveSign_84 ?_
            obtain ⟨hn1, hn2⟩ := nn_of (hty _ hq)
            refine ol_top (y := nI (cN (r (17 + q)))) hn1 ?_
            refine lv_bipush (v := 24) hx hb dX5_giveSign_85 (by decide) ?_
            refine ol_irem hx hb (cN (r (17 + q))) 24 (by omega) (by omega) (by omega) dX5_giveSign_87 ?_
            refine ol_iadd hx hb (544 + (24 * q)) ((cN (r (17 + q))) % 24) dX5_giveSign_88 ?_
            refine lv_aload_n hx hb dX5_giveSign_89 rfl (lv_at hl 1 rfl) ?_
            refine va_get (D := G.1) (ci := 12) (v := .ref (ad 1)) (C := RX5) (T := TX5) (N := 15) hx hb hts in_X5 hown hE.1 hP 0 rfl rfl 0 (by decide) (hts _ q1135) (fun _ h9 => h9) rfl dX5_giveSign_90 ?_
            refine lv_sipush (v := 260) hx hb dX5_giveSign_93 (by decide) ?_
            refine lv_iload_n hx hb dX5_giveSign_96 rfl (lv_at hl 3 rfl) ?_
            refine ol_top (y := nI (cN k)) hk2 ?_
            refine ol_iadd hx hb 260 (cN k) dX5_giveSign_97 ?_
            refine ol_iald hx hb hE.1 hP 1 0 rfl rfl (260 + (cN k)) (by omega) (by decide) dX5_giveSign_98 ?_
            refine lv_iload hx hb dX5_giveSign_99 (lv_at hl 0 rfl) ?_
            refine ol_if_eq hx hb 0 (by omega) (tgt := 109) dX5_giveSign_101 (by decide) (fun c_101 => ?_) (fun c_101 => ?_)
            · refine lv_iconst (v := 0) hx hb dX5_giveSign_109 (by decide) ?_
              refine lv_isub hx hb dX5_giveSign_110 ?_
              refine ol_iast hx hb hE.1 hP hD hS 1 0 rfl rfl (544 + (24 * q) + ((cN (r (17 + q))) % 24)) (by omega) (by decide) dX5_giveSign_111 (fun H locs hP hD hS => ?_)
              replace hP : va_P G.1 cl0 (mW G ad iS iA iL iT iC iR (upd r (544 + (24 * q) + ((cN (r (17 + q))) % 24)) ((r (260 + (cN k))) - 0)) pr ar br f pf af bf tx) H := hP
              replace hD : va_D (va_A (mW G ad iS iA iL iT iC iR r pr ar br f pf af bf tx) s.heap.size) (mW G ad iS iA iL iT iC iR (upd r (544 + (24 * q) + ((cN (r (17 + q))) % 24)) ((r (260 + (cN k))) - 0)) pr ar br f pf af bf tx) := hD
              refine lv_aload_n hx hb dX5_giveSign_112 rfl (lv_at hl 1 rfl) ?_
              refine va_get (D := G.1) (ci := 12) (v := .ref (ad 1)) (C := RX5) (T := TX5) (N := 15) hx hb hts in_X5 hown hE.1 hP 0 rfl rfl 0 (by decide) (hts _ q1135) (fun _ h9 => h9) rfl dX5_giveSign_113 ?_
              refine lv_bipush (v := 17) hx hb dX5_giveSign_116 (by decide) ?_
              refine lv_iload_n hx hb dX5_giveSign_118 rfl (lv_at hl 2 rfl) ?_
              refine ol_iadd hx hb 17 q dX5_giveSign_119 ?_
              refine lv_dup2_11 hx hb dX5_giveSign_120 rfl rfl ?_
              refine ol_iald hx hb hE.1 hP 1 0 rfl rfl (17 + q) (by omega) (by decide) dX5_giveSign_121 ?_
              refine lv_iconst (v := 1) hx hb dX5_giveSign_122 (by decide) ?_
              refine lv_iadd hx hb dX5_giveSign_123 ?_
              refine ol_iast hx hb hE.1 hP hD hS 1 0 rfl rfl (17 + q) (by omega) (by decide) dX5_giveSign_124 (fun H locs hP hD hS => ?_)
              replace hP : va_P G.1 cl0 (mW G ad iS iA iL iT iC iR (upd (upd r (544 + (24 * q) + ((cN (r (17 + q))) % 24)) ((r (260 + (cN k))) - 0)) (17 + q) (((upd r (544 + (24 * q) + ((cN (r (17 + q))) % 24)) ((r (260 + (cN k))) - 0)) (17 + q)) + 1)) pr ar br f pf af bf tx) H := hP
              replace hD : va_D (va_A (mW G ad iS iA iL iT iC iR r pr ar br f pf af bf tx) s.heap.size) (mW G ad iS iA iL iT iC iR (upd (upd r (544 + (24 * q) + ((cN (r (17 + q))) % 24)) ((r (260 + (cN k))) - 0)) (17 + q) (((upd r (544 + (24 * q) + ((cN (r (17 + q))) % 24)) ((r (260 + (cN k))) - 0)) (17 + q)) + 1)) pr ar br f pf af bf tx) := hD
              exact ol_vretE hx hb hr hlocks ⟨rfl, (by simp [mGs, mLarge, nbit, zB, c_5, c_20, c_30, c_43, c_54, c_101])⟩ hP hD hS dX5_giveSign_125
            · exact absurd c_101 (by decide)
          · refine lv_iconst (v := 1) hx hb dX5_giveSign_57 (by decide) ?_
            refine lv_goto (tgt := 62) hx hb dX5_giveSign_58 (by decide) ?_
            refine lv_istore (lv' := [(4, .int 1), (0, .ref (ad 0)), (1, .int (nI q)), (2, .int k), (3, .int x)]) hx hb dX5_giveSign_62 hl (by decide) rfl (fun ls hl => ?_)
            refine lv_aload_n hx hb dX5_giveSign_64 rfl (lv_at hl 1 rfl) ?_
            refine va_get (D := G.1) (ci := 12) (v := .ref (ad 1)) (C := RX5) (T := TX5) (N := 15) hx hb hts in_X5 hown hE.1 hP 0 rfl rfl 0 (by decide) (hts _ q1135) (fun _ h9 => h9) rfl dX5_giveSign_65 ?_
            refine lv_sipush (v := 544) hx hb dX5_giveSign_68 (by decide) ?_
            refine lv_bipush (v := 24) hx hb dX5_giveSign_71 (by decide) ?_
            refine lv_iload_n hx hb dX5_giveSign_73 rfl (lv_at hl 2 rfl) ?_
            refine ol_imul hx hb 24 q dX5_giveSign_74 ?_
            refine ol_iadd hx hb 544 (24 * q) dX5_giveSign_75 ?_
            refine lv_aload_n hx hb dX5_giveSign_76 rfl (lv_at hl 1 rfl) ?_
            refine va_get (D := G.1) (ci := 12) (v := .ref (ad 1)) (C := RX5) (T := TX5) (N := 15) hx hb hts in_X5 hown hE.1 hP 0 rfl rfl 0 (by decide) (hts _ q1135) (fun _ h9 => h9) rfl dX5_giveSign_77 ?_
            refine lv_bipush (v := 17) hx hb dX5_giveSign_80 (by decide) ?_
            refine lv_iload_n hx hb dX5_giveSign_82 rfl (lv_at hl 2 rfl) ?_
            refine ol_iadd hx hb 17 q dX5_giveSign_83 ?_
            refine ol_iald hx hb hE.1 hP 1 0 rfl rfl (17 + q) (by omega) (by decide) dX5_giveSign_84 ?_
            obtain ⟨hn1, hn2⟩ := nn_of (hty _ hq)
            refine ol_top (y := nI (cN (r (17 + q)))) hn1 ?_
            refine lv_bipush (v := 24) hx hb dX5_giveSign_85 (by decide) ?_
            refine ol_irem hx hb (cN (r (17 + q))) 24 (by omega) (by omega) (by omega) dX5_giveSign_87 ?_
            refine ol_iadd hx hb (544 + (24 * q)) ((cN (r (17 + q))) % 24) dX5_giveSign_88 ?_
            refine lv_aload_n hx hb dX5_giveSign_89 rfl (lv_at hl 1 rfl) ?_
            refine va_get (D := G.1) (ci := 12) (v := .ref (ad 1)) (C := RX5) (T := TX5) (N := 15) hx hb hts in_X5 hown hE.1 hP 0 rfl rfl 0 (by decide) (hts _ q1135) (fun _ h9 => h9) rfl dX5_giveSign_90 ?_
            refine lv_sipush (v := 260) hx hb dX5_giveSign_93 (by decide) ?_
            refine lv_iload_n hx hb dX5_giveSign_96 rfl (lv_at hl 3 rfl) ?_
            refine ol_top (y := nI (cN k)) hk2 ?_
            refine ol_iadd hx hb 260 (cN k) dX5_giveSign_97 ?_
            refine ol_iald hx hb hE.1 hP 1 0 rfl rfl (260 + (cN k)) (by omega) (by decide) dX5_giveSign_98 ?_
            refine lv_iload hx hb dX5_giveSign_99 (lv_at hl 0 rfl) ?_
            refine ol_if_eq hx hb 1 (by omega) (tgt := 109) dX5_giveSign_101 (by decide) (fun c_101 => ?_) (fun c_101 => ?_)
            · exact absurd c_101 (by decide)
            · refine lv_bipush (v := 32) hx hb dX5_giveSign_104 (by decide) ?_
              refine lv_goto (tgt := 110) hx hb dX5_giveSign_106 (by decide) ?_
              refine lv_isub hx hb dX5_giveSign_110 ?_
              refine ol_iast hx hb hE.1 hP hD hS 1 0 rfl rfl (544 + (24 * q) + ((cN (r (17 + q))) % 24)) (by omega) (by decide) dX5_giveSign_111 (fun H locs hP hD hS => ?_)
              replace hP : va_P G.1 cl0 (mW G ad iS iA iL iT iC iR (upd r (544 + (24 * q) + ((cN (r (17 + q))) % 24)) ((r (260 + (cN k))) - 32)) pr ar br f pf af bf tx) H := hP
              replace hD : va_D (va_A (mW G ad iS iA iL iT iC iR r pr ar br f pf af bf tx) s.heap.size) (mW G ad iS iA iL iT iC iR (upd r (544 + (24 * q) + ((cN (r (17 + q))) % 24)) ((r (260 + (cN k))) - 32)) pr ar br f pf af bf tx) := hD
              refine lv_aload_n hx hb dX5_giveSign_112 rfl (lv_at hl 1 rfl) ?_
              refine va_get (D := G.1) (ci := 12) (v := .ref (ad 1)) (C := RX5) (T := TX5) (N := 15) hx hb hts in_X5 hown hE.1 hP 0 rfl rfl 0 (by decide) (hts _ q1135) (fun _ h9 => h9) rfl dX5_giveSign_113 ?_
              refine lv_bipush (v := 17) hx hb dX5_giveSign_116 (by decide) ?_
              refine lv_iload_n hx hb dX5_giveSign_118 rfl (lv_at hl 2 rfl) ?_
              refine ol_iadd hx hb 17 q dX5_giveSign_119 ?_
              refine lv_dup2_11 hx hb dX5_giveSign_120 rfl rfl ?_
              refine ol_iald hx hb hE.1 hP 1 0 rfl rfl (17 + q) (by omega) (by decide) dX5_giveSign_121 ?_
              refine lv_iconst (v := 1) hx hb dX5_giveSign_122 (by decide) ?_
              refine lv_iadd hx hb dX5_giveSign_123 ?_
              refine ol_iast hx hb hE.1 hP hD hS 1 0 rfl rfl (17 + q) (by omega) (by decide) dX5_giveSign_124 (fun H locs hP hD hS => ?_)
              replace hP : va_P G.1 cl0 (mW G ad iS iA iL iT iC iR (upd (upd r (544 + (24 * q) + ((cN (r (17 + q))) % 24)) ((r (260 + (cN k))) - 32)) (17 + q) (((upd r (544 + (24 * q) + ((cN (r (17 + q))) % 24)) ((r (260 + (cN k))) - 32)) (17 + q)) + 1)) pr ar br f pf af bf tx) H := hP
              replace hD : va_D (va_A (mW G ad iS iA iL iT iC iR r pr ar br f pf af bf tx) s.heap.size) (mW G ad iS iA iL iT iC iR (upd (upd r (544 + (24 * q) + ((cN (r (17 + q))) % 24)) ((r (260 + (cN k))) - 32)) (17 + q) (((upd r (544 + (24 * q) + ((cN (r (17 + q))) % 24)) ((r (260 + (cN k))) - 32)) (17 + q)) + 1)) pr ar br f pf af bf tx) := hD
              exact ol_vretE hx hb hr hlocks ⟨rfl, (by simp [mGs, mLarge, nbit, zB, c_5, c_20, c_30, c_43, c_54, c_101])⟩ hP hD hS dX5_giveSign_125
    · exact ol_vretE hx hb hr hlocks ⟨rfl, (by simp [mGs, mLarge, nbit, zB, c_5, c_20])⟩ hP hD hS dX5_giveSign_23
set_option maxHeartbeats 4000000 in
set_option maxRecDepth 100000 in
theorem mm_countIt (l : Launch) (G : oG) (ad : Nat → Nat) (iS : Int32) (iA : Int32) (iL : Int32) (iT : Int32) (iC : Int32) (iR : Int32) (r : Nat → Int32) (pr : Nat → Int32) (ar : Nat → Int32) (br : Nat → Int32) (f : Nat → UInt32) (pf : Nat → UInt32) (af : Nat → UInt32) (bf : Nat → UInt32) (tx : Nat → Int32) (b : Int32) (h : Int32)  (hb0 : ¬ b < 0) (sz : Nat) : Met l yX5_countIt (ws_ yX5_countIt cX5_countIt 3 none) ({ frames := 0, cells := 0, slots := 0, locals := 0 }) (oPc G [.ref (ad 0), .int b, .int h] (oPE G (mW G ad iS iA iL iT iC iR r pr ar br f pf af bf tx) sz (fun _ => True))) (oE G (fun v_ W_ => v_ = none ∧ W_ = mW G ad iS iA iL iT iC iR (mCnt r b h) pr ar br f pf af bf tx) (mW G ad iS iA iL iT iC iR r pr ar br f pf af bf tx) sz) 0 0 (va_A (mW G ad iS iA iL iT iC iR r pr ar br f pf af bf tx) sz) := by
  refine Met.ofW (cc := cX5_countIt) (maxL := 3) (ret := none) (by decide) rfl ?_
  intro p e s m args below meth c s₁ B hml hv
  obtain ⟨rfl, ⟨hsz, hP, hD0, hX⟩, hE⟩ := hv
  have hx := B.exec
  have hb := B.bytes
  have hr := B.returns
  have hts := atoms_spec (ws := ws_ yX5_countIt cX5_countIt 3 none) B.pre
  have hts : ∀ w ∈ lw_all, w.before _ s = true := fun w h => hts w (List.mem_cons_of_mem _ h)
  have hown : s.vm.findClass RX5 = some m.cls := findClass_of_methodNamed B.named
  have hlocks := B.notSynchronized
  subst hsz
  have hD := hD0.self (sz := s.heap.size)
  have hA : ∀ q : Nat, s.heap.size ≤ q → va_A (mW G ad iS iA iL iT iC iR r pr ar br f pf af bf tx) s.heap.size q := fun q h => Or.inr h
  have hl := lv_entry ([.ref (ad 0), .int b, .int h]) (n := 3) (Nat.le_of_ble_eq_true rfl)
  rw [lg_entry_eq]
  generalize (lg_sl ([.ref (ad 0), .int b, .int h]) ++ List.replicate (3 - (lg_sl ([.ref (ad 0), .int b, .int h])).length) Slot.unset).toArray = ls at hl ⊢
  replace hl : lv_has ls 3 [(0, .ref (ad 0)), (1, .int b), (2, .int h)] := hl
  refine ol_start (A := va_A (mW G ad iS iA iL iT iC iR r pr ar br f pf af bf tx) s.heap.size) (fun H locs hH hS => ?_)
  rw [← hH] at hP
  clear hH
  refine lv_iload_n hx hb dX5_countIt_0 rfl (lv_at hl 1 rfl) ?_
  refine lv_iconst (v := 2) hx hb dX5_countIt_1 (by decide) ?_
  refine lv_icmp_ge (tgt := 43) hx hb dX5_countIt_2 (by decide) (fun c_2 => ?_) (fun c_2 => ?_)
  · refine lv_iload_n hx hb dX5_countIt_43 rfl (lv_at hl 1 rfl) ?_
    refine lv_iconst (v := 2) hx hb dX5_countIt_44 (by decide) ?_
    refine lv_icmp_ne (tgt := 78) hx hb dX5_countIt_45 (by decide) (fun c_45 => ?_) (fun c_45 => ?_)
    · exact ol_vretE hx hb hr hlocks ⟨rfl, (by simp [mCnt, zB, c_2, Int32.not_lt.mpr c_2, c_45])⟩ hP hD hS dX5_countIt_78
    · refine lv_aload_n hx hb dX5_countIt_48 rfl (lv_at hl 0 rfl) ?_
      refine va_get (D := G.1) (ci := 12) (v := .ref (ad 1)) (C := RX5) (T := TX5) (N := 15) hx hb hts in_X5 hown hE.1 hP 0 rfl rfl 0 (by decide) (hts _ q1135) (fun _ h9 => h9) rfl dX5_countIt_49 ?_
      refine lv_bipush (v := 14) hx hb dX5_countIt_52 (by decide) ?_
      refine lv_dup2_11 hx hb dX5_countIt_54 rfl rfl ?_
      refine ol_iald hx hb hE.1 hP 1 0 rfl rfl 14 (by decide) (by decide) dX5_countIt_55 ?_
      refine lv_iconst (v := 1) hx hb dX5_countIt_56 (by decide) ?_
      refine lv_iadd hx hb dX5_countIt_57 ?_
      refine ol_iast hx hb hE.1 hP hD hS 1 0 rfl rfl 14 (by decide) (by decide) dX5_countIt_58 (fun H locs hP hD hS => ?_)
      replace hP : va_P G.1 cl0 (mW G ad iS iA iL iT iC iR (upd r 14 ((r 14) + 1)) pr ar br f pf af bf tx) H := hP
      replace hD : va_D (va_A (mW G ad iS iA iL iT iC iR r pr ar br f pf af bf tx) s.heap.size) (mW G ad iS iA iL iT iC iR (upd r 14 ((r 14) + 1)) pr ar br f pf af bf tx) := hD
      replace hP : va_P G.1 cl0 (mW G ad iS iA iL iT iC iR (mCnG r) pr ar br f pf af bf tx) H := hP
      replace hD : va_D (va_A (mW G ad iS iA iL iT iC iR r pr ar br f pf af bf tx) s.heap.size) (mW G ad iS iA iL iT iC iR (mCnG r) pr ar br f pf af bf tx) := mD_any hD
      refine lv_aload_n hx hb dX5_countIt_59 rfl (lv_at hl 0 rfl) ?_
      refine va_get (D := G.1) (ci := 12) (v := .ref (ad 1)) (C := RX5) (T := TX5) (N := 15) hx hb hts in_X5 hown hE.1 hP 0 rfl rfl 0 (by decide) (hts _ q1135) (fun _ h9 => h9) rfl dX5_countIt_60 ?_
      refine lv_bipush (v := 15) hx hb dX5_countIt_63 (by decide) ?_
      refine lv_dup2_11 hx hb dX5_countIt_65 rfl rfl ?_
      refine ol_iald hx hb hE.1 hP 1 0 rfl rfl 15 (by decide) (by decide) dX5_countIt_66 ?_
      refine lv_iload_n hx hb dX5_countIt_67 rfl (lv_at hl 2 rfl) ?_
      refine lv_if_ge (tgt := 75) hx hb dX5_countIt_68 (by decide) (fun c_68 => ?_) (fun c_68 => ?_)
      · refine lv_iconst (v := 0) hx hb dX5_countIt_75 (by decide) ?_
        refine lv_iadd hx hb dX5_countIt_76 ?_
        refine ol_iast hx hb hE.1 hP hD hS 1 0 rfl rfl 15 (by decide) (by decide) dX5_countIt_77 (fun H locs hP hD hS => ?_)
        replace hP : va_P G.1 cl0 (mW G ad iS iA iL iT iC iR (upd (mCnG r) 15 (((mCnG r) 15) + 0)) pr ar br f pf af bf tx) H := hP
        replace hD : va_D (va_A (mW G ad iS iA iL iT iC iR r pr ar br f pf af bf tx) s.heap.size) (mW G ad iS iA iL iT iC iR (upd (mCnG r) 15 (((mCnG r) 15) + 0)) pr ar br f pf af bf tx) := hD
        exact ol_vretE hx hb hr hlocks ⟨rfl, (by simp [mCnt, zB, c_2, Int32.not_lt.mpr c_2, c_45, c_68, Int32.not_lt.mpr c_68])⟩ hP hD hS dX5_countIt_78
      · refine lv_iconst (v := 1) hx hb dX5_countIt_71 (by decide) ?_
        refine lv_goto (tgt := 76) hx hb dX5_countIt_72 (by decide) ?_
        refine lv_iadd hx hb dX5_countIt_76 ?_
        refine ol_iast hx hb hE.1 hP hD hS 1 0 rfl rfl 15 (by decide) (by decide) dX5_countIt_77 (fun H locs hP hD hS => ?_)
        replace hP : va_P G.1 cl0 (mW G ad iS iA iL iT iC iR (upd (mCnG r) 15 (((mCnG r) 15) + 1)) pr ar br f pf af bf tx) H := hP
        replace hD : va_D (va_A (mW G ad iS iA iL iT iC iR r pr ar br f pf af bf tx) s.heap.size) (mW G ad iS iA iL iT iC iR (upd (mCnG r) 15 (((mCnG r) 15) + 1)) pr ar br f pf af bf tx) := hD
        exact ol_vretE hx hb hr hlocks ⟨rfl, (by simp [mCnt, zB, c_2, Int32.not_lt.mpr c_2, c_45, c_68, Int32.not_le.mp c_68])⟩ hP hD hS dX5_countIt_78
  · obtain ⟨hb2, hb1⟩ := lt2 hb0 (Int32.not_le.mp c_2)
    refine lv_aload_n hx hb dX5_countIt_5 rfl (lv_at hl 0 rfl) ?_
    refine va_get (D := G.1) (ci := 12) (v := .ref (ad 1)) (C := RX5) (T := TX5) (N := 15) hx hb hts in_X5 hown hE.1 hP 0 rfl rfl 0 (by decide) (hts _ q1135) (fun _ h9 => h9) rfl dX5_countIt_6 ?_
    refine lv_bipush (v := 10) hx hb dX5_countIt_9 (by decide) ?_
    refine lv_iload_n hx hb dX5_countIt_11 rfl (lv_at hl 1 rfl) ?_
    refine ol_top (y := nI (cN b)) hb1 ?_
    refine ol_iadd hx hb 10 (cN b) dX5_countIt_12 ?_
    refine lv_dup2_11 hx hb dX5_countIt_13 rfl rfl ?_
    refine ol_iald hx hb hE.1 hP 1 0 rfl rfl (10 + (cN b)) (by omega) (by decide) dX5_countIt_14 ?_
    refine lv_iconst (v := 1) hx hb dX5_countIt_15 (by decide) ?_
    refine lv_iadd hx hb dX5_countIt_16 ?_
    refine ol_iast hx hb hE.1 hP hD hS 1 0 rfl rfl (10 + (cN b)) (by omega) (by decide) dX5_countIt_17 (fun H locs hP hD hS => ?_)
    replace hP : va_P G.1 cl0 (mW G ad iS iA iL iT iC iR (upd r (10 + (cN b)) ((r (10 + (cN b))) + 1)) pr ar br f pf af bf tx) H := hP
    replace hD : va_D (va_A (mW G ad iS iA iL iT iC iR r pr ar br f pf af bf tx) s.heap.size) (mW G ad iS iA iL iT iC iR (upd r (10 + (cN b)) ((r (10 + (cN b))) + 1)) pr ar br f pf af bf tx) := hD
    replace hP : va_P G.1 cl0 (mW G ad iS iA iL iT iC iR (mCnA r (cN b)) pr ar br f pf af bf tx) H := hP
    replace hD : va_D (va_A (mW G ad iS iA iL iT iC iR r pr ar br f pf af bf tx) s.heap.size) (mW G ad iS iA iL iT iC iR (mCnA r (cN b)) pr ar br f pf af bf tx) := mD_any hD
    refine lv_aload_n hx hb dX5_countIt_18 rfl (lv_at hl 0 rfl) ?_
    refine va_get (D := G.1) (ci := 12) (v := .ref (ad 1)) (C := RX5) (T := TX5) (N := 15) hx hb hts in_X5 hown hE.1 hP 0 rfl rfl 0 (by decide) (hts _ q1135) (fun _ h9 => h9) rfl dX5_countIt_19 ?_
    refine lv_bipush (v := 12) hx hb dX5_countIt_22 (by decide) ?_
    refine lv_iload_n hx hb dX5_countIt_24 rfl (lv_at hl 1 rfl) ?_
    refine ol_top (y := nI (cN b)) hb1 ?_
    refine ol_iadd hx hb 12 (cN b) dX5_countIt_25 ?_
    refine lv_dup2_11 hx hb dX5_countIt_26 rfl rfl ?_
    refine ol_iald hx hb hE.1 hP 1 0 rfl rfl (12 + (cN b)) (by omega) (by decide) dX5_countIt_27 ?_
    refine lv_iload_n hx hb dX5_countIt_28 rfl (lv_at hl 2 rfl) ?_
    refine lv_iload_n hx hb dX5_countIt_29 rfl (lv_at hl 1 rfl) ?_
    refine lv_icmp_ne (tgt := 37) hx hb dX5_countIt_30 (by decide) (fun c_30 => ?_) (fun c_30 => ?_)
    · refine lv_iconst (v := 0) hx hb dX5_countIt_37 (by decide) ?_
      refine lv_iadd hx hb dX5_countIt_38 ?_
      refine ol_iast hx hb hE.1 hP hD hS 1 0 rfl rfl (12 + (cN b)) (by omega) (by decide) dX5_countIt_39 (fun H locs hP hD hS => ?_)
      replace hP : va_P G.1 cl0 (mW G ad iS iA iL iT iC iR (upd (mCnA r (cN b)) (12 + (cN b)) (((mCnA r (cN b)) (12 + (cN b))) + 0)) pr ar br f pf af bf tx) H := hP
      replace hD : va_D (va_A (mW G ad iS iA iL iT iC iR r pr ar br f pf af bf tx) s.heap.size) (mW G ad iS iA iL iT iC iR (upd (mCnA r (cN b)) (12 + (cN b)) (((mCnA r (cN b)) (12 + (cN b))) + 0)) pr ar br f pf af bf tx) := hD
      refine lv_goto (tgt := 78) hx hb dX5_countIt_40 (by decide) ?_
      exact ol_vretE hx hb hr hlocks ⟨rfl, (by simp [mCnt, zB, c_2, Int32.not_le.mp c_2, c_30])⟩ hP hD hS dX5_countIt_78
    · refine lv_iconst (v := 1) hx hb dX5_countIt_33 (by decide) ?_
      refine lv_goto (tgt := 38) hx hb dX5_countIt_34 (by decide) ?_
      refine lv_iadd hx hb dX5_countIt_38 ?_
      refine ol_iast hx hb hE.1 hP hD hS 1 0 rfl rfl (12 + (cN b)) (by omega) (by decide) dX5_countIt_39 (fun H locs hP hD hS => ?_)
      replace hP : va_P G.1 cl0 (mW G ad iS iA iL iT iC iR (upd (mCnA r (cN b)) (12 + (cN b)) (((mCnA r (cN b)) (12 + (cN b))) + 1)) pr ar br f pf af bf tx) H := hP
      replace hD : va_D (va_A (mW G ad iS iA iL iT iC iR r pr ar br f pf af bf tx) s.heap.size) (mW G ad iS iA iL iT iC iR (upd (mCnA r (cN b)) (12 + (cN b)) (((mCnA r (cN b)) (12 + (cN b))) + 1)) pr ar br f pf af bf tx) := hD
      refine lv_goto (tgt := 78) hx hb dX5_countIt_40 (by decide) ?_
      exact ol_vretE hx hb hr hlocks ⟨rfl, (by simp [mCnt, zB, c_2, Int32.not_le.mp c_2, c_30])⟩ hP hD hS dX5_countIt_78
