/-! THE REFERENCE: texts -/
theorem sees_t {tx : Nat → Int32} {t ln : Nat} {lo hi : Int32} (h : mSees tx t ln lo hi = true) : t < ln ∧ inR (tx t) lo hi = true := by
  simp only [mSees, Bool.and_eq_true, decide_eq_true_eq] at h
  exact h
theorem inR_ab {x : Int32} {a b : Nat} (hb : a < 2 ^ 31 ∧ b < 2 ^ 31) (h : inR x (nI a) (nI b) = true) : a ≤ cN x ∧ cN x ≤ b ∧ x = nI (cN x) := by
  simp only [inR, Bool.and_eq_true, Bool.not_eq_true', decide_eq_false_iff_not] at h
  obtain ⟨h1, h2⟩ := h
  have h0 : ¬ x < 0 := fun q => h1 (by rw [Int32.lt_iff_toInt_lt] at q ⊢; have e0 : (0 : Int32).toInt = 0 := rfl; have e1 := nI_toInt hb.1; omega)
  obtain ⟨e, hj⟩ := nn_of h0
  rw [e, nI_ltI hj hb.1] at h1
  rw [e, nI_ltI hb.2 hj] at h2
  exact ⟨by omega, by omega, e⟩
def mDg (tx : Nat → Int32) (t : Nat) : Nat := cN (tx t) - 48
def mRn2 (tx : Nat → Int32) (t ln : Nat) : Bool := decide (0 < mDg tx t) && mSees tx (t + 1) ln 48 57
def mRnV (tx : Nat → Int32) (t ln : Nat) : Nat := if mRn2 tx t ln = true then 10 * mDg tx t + cN (tx (t + 1)) - 48 else mDg tx t
def mRnI (tx : Nat → Int32) (t ln lo : Nat) : Int32 := if mSees tx t ln (nI (48 + lo)) 57 = true then nI (mRnV tx t ln) else -1
def mRnT (tx : Nat → Int32) (t ln lo : Nat) : Nat := if mSees tx t ln (nI (48 + lo)) 57 = true then (if mRn2 tx t ln = true then t + 1 + 1 else t + 1) else t
theorem mRnV_le {tx : Nat → Int32} {t ln lo : Nat} (hl : lo ≤ 1) (h : mSees tx t ln (nI (48 + lo)) 57 = true) : mRnV tx t ln ≤ 99 := by
  have h1 := inR_ab (a := 48 + lo) (b := 57) ⟨by omega, by decide⟩ (sees_t h).2
  unfold mRnV
  split
  · rename_i h2
    simp only [mRn2, Bool.and_eq_true] at h2
    have h3 := inR_ab (a := 48) (b := 57) ⟨by decide, by decide⟩ (sees_t h2.2).2
    unfold mDg; omega
  · unfold mDg; omega
theorem mRnI_0 {tx : Nat → Int32} {t ln lo : Nat} (hl : lo ≤ 1) (h : ¬ mRnI tx t ln lo < 0) : mSees tx t ln (nI (48 + lo)) 57 = true ∧ mRnI tx t ln lo = nI (mRnV tx t ln) ∧ mRnV tx t ln ≤ 99 := by
  cases e : mSees tx t ln (nI (48 + lo)) 57
  · unfold mRnI at h; rw [e, if_neg (by decide)] at h; exact absurd (by decide) h
  · refine ⟨rfl, ?_, mRnV_le hl e⟩
    unfold mRnI; rw [if_pos e]
theorem mRnI_1 {tx : Nat → Int32} {t ln lo : Nat} (hl : lo ≤ 1) (h : mRnI tx t ln lo < 0) : mSees tx t ln (nI (48 + lo)) 57 = false := by
  cases e : mSees tx t ln (nI (48 + lo)) 57
  · rfl
  · unfold mRnI at h; rw [if_pos e] at h; exact absurd h (nI_pos (by have := mRnV_le hl e; omega))
theorem mRnT_le {tx : Nat → Int32} {t ln lo : Nat} (ht : t ≤ ln) : t ≤ mRnT tx t ln lo ∧ mRnT tx t ln lo ≤ ln := by
  unfold mRnT
  split
  · rename_i h
    have h1 := (sees_t h).1
    split
    · rename_i h2
      simp only [mRn2, Bool.and_eq_true] at h2
      have h3 := (sees_t h2.2).1
      omega
    · omega
  · omega
abbrev mT : Type := Nat × (Nat → Int32) × (Nat → UInt32) × Int32 × Int32 × Int32
def mvOK (tx : Nat → Int32) (t ln : Nat) : Bool := if mSees tx t ln 116 116 = true then mSees tx (t + 1) ln (nI (48 + 1)) 57 else mSees tx t ln 48 49 && ((mSees tx (t + 1) ln 100 100 || mSees tx (t + 1) ln 117 117) && mSees tx (t + 1 + 1) ln (nI (48 + 0)) 57)
def mvT (tx : Nat → Int32) (t ln : Nat) : Nat := if mSees tx t ln 116 116 = true then mRnT tx (t + 1) ln 1 else if mSees tx t ln 48 49 = true then (if mSees tx (t + 1) ln 100 100 = true then mRnT tx (t + 1 + 1) ln 0 else if mSees tx (t + 1) ln 117 117 = true then mRnT tx (t + 1 + 1) ln 0 else t + 1) else t
def mvA (r : Nat → Int32) (n : Nat) (tx : Nat → Int32) (t ln : Nat) : Int32 := if mSees tx (t + 1) ln 100 100 = true then mAP r n (nI (cN (tx t) - 48)) (nI (mRnV tx (t + 1 + 1) ln)) else mAR r n (nI (cN (tx t) - 48)) (nI (mRnV tx (t + 1 + 1) ln))
def mvH (tx : Nat → Int32) (t ln : Nat) : Int32 := if mSees tx (t + 1) ln 100 100 = true then nI (cN (tx t) - 48) else -5
def mMv (b : Bool) (tx : Nat → Int32) (ln Rw Cl : Nat) (x : mT) : mT :=
  if mvOK tx x.1 ln = true then (if b = true then (if mSees tx x.1 ln 116 116 = true then
      (mvT tx x.1 ln, (mIt x.2.1 x.2.2.1 x.2.2.2.2.1 x.2.2.2.2.2 Rw Cl (mRnV tx (x.1 + 1) ln)).1, (mIt x.2.1 x.2.2.1 x.2.2.2.2.1 x.2.2.2.2.2 Rw Cl (mRnV tx (x.1 + 1) ln)).2.1, nI (mIt x.2.1 x.2.2.1 x.2.2.2.2.1 x.2.2.2.2.2 Rw Cl (mRnV tx (x.1 + 1) ln)).2.2.1, (mIt x.2.1 x.2.2.1 x.2.2.2.2.1 x.2.2.2.2.2 Rw Cl (mRnV tx (x.1 + 1) ln)).2.2.2.1, (mIt x.2.1 x.2.2.1 x.2.2.2.2.1 x.2.2.2.2.2 Rw Cl (mRnV tx (x.1 + 1) ln)).2.2.2.2)
    else (mvT tx x.1 ln, (if mvA x.2.1 (Rw * Cl) tx x.1 ln = 0 then upd x.2.1 (20 + mRnV tx (x.1 + 1 + 1) ln) (mvH tx x.1 ln) else x.2.1), x.2.2.1, mvA x.2.1 (Rw * Cl) tx x.1 ln, x.2.2.2.2.1, x.2.2.2.2.2))
    else (mvT tx x.1 ln, x.2.1, x.2.2.1, 0, x.2.2.2.2.1, x.2.2.2.2.2))
  else (mvT tx x.1 ln, x.2.1, x.2.2.1, -100, x.2.2.2.2.1, x.2.2.2.2.2)
theorem mvT_le {tx : Nat → Int32} {t ln : Nat} (ht : t ≤ ln) : t ≤ mvT tx t ln ∧ mvT tx t ln ≤ ln := by
  unfold mvT
  split
  · rename_i h
    have h1 := (sees_t h).1
    have := mRnT_le (tx := tx) (lo := 1) (show t + 1 ≤ ln by omega)
    omega
  · split
    · rename_i h
      have h1 := (sees_t h).1
      split
      · rename_i h2
        have h3 := (sees_t h2).1
        have := mRnT_le (tx := tx) (lo := 0) (show t + 1 + 1 ≤ ln by omega)
        omega
      · split
        · rename_i h2
          have h3 := (sees_t h2).1
          have := mRnT_le (tx := tx) (lo := 0) (show t + 1 + 1 ≤ ln by omega)
          omega
        · omega
    · omega
theorem mMv_1 (b : Bool) (tx : Nat → Int32) (ln Rw Cl : Nat) (x : mT) : (mMv b tx ln Rw Cl x).1 = mvT tx x.1 ln := by
  unfold mMv; repeat' split
  all_goals rfl
theorem cN_nI {a : Nat} (h : a < 2 ^ 31) : cN (nI a) = a := nI_clamp h
/-- what a move asks -/
def mMvOK (b : Bool) (tx : Nat → Int32) (ln Rw Cl : Nat) (x : mT) : Prop := mG x.2.1 Rw Cl ∧ (b = true → mvOK tx x.1 ln = true → mSees tx x.1 ln 116 116 = true → mItOK x.2.1 x.2.2.1 Rw Cl (mRnV tx (x.1 + 1) ln))
/-- all moves: the last part tells the answer -/
def mMs (b : Bool) (tx : Nat → Int32) (ln Rw Cl : Nat) : Nat → mT → mT
  | 0, x => x
  | g + 1, x => if (mMv b tx ln Rw Cl x).2.2.2.1 < 0 then mMv b tx ln Rw Cl x else
      if mSees tx (mvT tx x.1 ln) ln 59 59 = true then mMs b tx ln Rw Cl g (mvT tx x.1 ln + 1, (mMv b tx ln Rw Cl x).2.1, (mMv b tx ln Rw Cl x).2.2.1, x.2.2.2.1 + (mMv b tx ln Rw Cl x).2.2.2.1, (mMv b tx ln Rw Cl x).2.2.2.2.1, (mMv b tx ln Rw Cl x).2.2.2.2.2)
      else (mvT tx x.1 ln + 0, (mMv b tx ln Rw Cl x).2.1, (mMv b tx ln Rw Cl x).2.2.1, (if mvT tx x.1 ln + 0 < ln then -100 else x.2.2.2.1 + (mMv b tx ln Rw Cl x).2.2.2.1), (mMv b tx ln Rw Cl x).2.2.2.2.1, (mMv b tx ln Rw Cl x).2.2.2.2.2)
def mMsOK (b : Bool) (tx : Nat → Int32) (ln Rw Cl : Nat) : Nat → mT → Prop
  | 0, _ => True
  | g + 1, x => mMvOK b tx ln Rw Cl x ∧ (¬ (mMv b tx ln Rw Cl x).2.2.2.1 < 0 → mSees tx (mvT tx x.1 ln) ln 59 59 = true → mMsOK b tx ln Rw Cl g (mvT tx x.1 ln + 1, (mMv b tx ln Rw Cl x).2.1, (mMv b tx ln Rw Cl x).2.2.1, x.2.2.2.1 + (mMv b tx ln Rw Cl x).2.2.2.1, (mMv b tx ln Rw Cl x).2.2.2.2.1, (mMv b tx ln Rw Cl x).2.2.2.2.2))
theorem mMv_no (tx : Nat → Int32) (ln Rw Cl : Nat) (x : mT) : (mMv false tx ln Rw Cl x).2.1 = x.2.1 ∧ (mMv false tx ln Rw Cl x).2.2.1 = x.2.2.1 ∧ (mMv false tx ln Rw Cl x).2.2.2.2 = x.2.2.2.2 := by
  unfold mMv; split
  · rw [if_neg (by decide)]; exact ⟨rfl, rfl, rfl⟩
  · exact ⟨rfl, rfl, rfl⟩
theorem mMs_no (tx : Nat → Int32) (ln Rw Cl g : Nat) (x : mT) : (mMs false tx ln Rw Cl g x).2.1 = x.2.1 ∧ (mMs false tx ln Rw Cl g x).2.2.1 = x.2.2.1 ∧ (mMs false tx ln Rw Cl g x).2.2.2.2 = x.2.2.2.2 := by
  induction g generalizing x with
  | zero => exact ⟨rfl, rfl, rfl⟩
  | succ g ih =>
    obtain ⟨h1, h2, h3⟩ := mMv_no tx ln Rw Cl x
    unfold mMs; split
    · exact ⟨h1, h2, h3⟩
    · split
      · obtain ⟨g1, g2, g3⟩ := ih (mvT tx x.1 ln + 1, (mMv false tx ln Rw Cl x).2.1, (mMv false tx ln Rw Cl x).2.2.1, x.2.2.2.1 + (mMv false tx ln Rw Cl x).2.2.2.1, (mMv false tx ln Rw Cl x).2.2.2.2.1, (mMv false tx ln Rw Cl x).2.2.2.2.2)
        exact ⟨g1.trans h1, g2.trans h2, g3.trans h3⟩
      · exact ⟨h1, h2, h3⟩
theorem mMsOK_no {tx : Nat → Int32} {ln Rw Cl : Nat} (g : Nat) (x : mT) (h : mG x.2.1 Rw Cl) : mMsOK false tx ln Rw Cl g x := by
  induction g generalizing x with
  | zero => trivial
  | succ g ih => exact ⟨⟨h, fun q => by cases q⟩, fun _ _ => ih _ (by show mG (mMv false tx ln Rw Cl x).2.1 Rw Cl; rw [(mMv_no tx ln Rw Cl x).1]; exact h)⟩
/-- where the loop of moves stands: the state, whether more comes, how much is left -/
def mMsI (b : Bool) (tx : Nat → Int32) (ln Rw Cl : Nat) (z : mT) (y : mT × Bool × Nat) : Prop := y.1.1 ≤ ln ∧ (if y.2.1 = true then ln - y.1.1 < y.2.2 ∧ mMs b tx ln Rw Cl y.2.2 y.1 = z ∧ mMsOK b tx ln Rw Cl y.2.2 y.1 else
  (y.1.1, y.1.2.1, y.1.2.2.1, (if y.1.1 < ln then -100 else y.1.2.2.2.1), y.1.2.2.2.2.1, y.1.2.2.2.2.2) = z)
def mMsU (ln : Nat) (y : mT × Bool × Nat) : Nat := if y.2.1 = true then 1 + (ln - y.1.1) else 0
set_option maxHeartbeats 4000000 in
set_option maxRecDepth 100000 in
theorem mm_type (l : Launch) (G : oG) (ad : Nat → Nat) (iS : Int32) (iA : Int32) (ln : Nat) (iT : Int32) (iC : Int32) (iR : Int32) (r : Nat → Int32) (pr : Nat → Int32) (ar : Nat → Int32) (br : Nat → Int32) (f : Nat → UInt32) (pf : Nat → UInt32) (af : Nat → UInt32) (bf : Nat → UInt32) (tx : Nat → Int32) (z : Int32)  (h60 : ln ≤ 60) (hc : vp_nar .char z = z) (sz : Nat) : Met l yX5_type (ws_ yX5_type cX5_type 2 (some .int)) ({ frames := 0, cells := 0, slots := 0, locals := 0 }) (oPc G [.ref (ad 0), .int z] (oPE G (mW G ad iS iA (nI ln) iT iC iR r pr ar br f pf af bf tx) sz (fun _ => True))) (oE G (fun v_ W_ => v_ = some (.int (if ln = 60 then -3 else nI (ln + 1))) ∧ W_ = mW G ad iS iA (nI (if ln = 60 then ln else ln + 1)) iT iC iR r pr ar br f pf af bf (if ln = 60 then tx else upd tx ln z)) (mW G ad iS iA (nI ln) iT iC iR r pr ar br f pf af bf tx) sz) 0 0 (va_A (mW G ad iS iA (nI ln) iT iC iR r pr ar br f pf af bf tx) sz) := by
  refine Met.ofW (cc := cX5_type) (maxL := 2) (ret := (some .int)) (by decide) rfl ?_
  intro p e s m args below meth c s₁ B hml hv
  obtain ⟨rfl, ⟨hsz, hP, hD0, hX⟩, hE⟩ := hv
  have hx := B.exec
  have hb := B.bytes
  have hr := B.returns
  have hts := atoms_spec (ws := ws_ yX5_type cX5_type 2 (some .int)) B.pre
  have hts : ∀ w ∈ lw_all, w.before _ s = true := fun w h => hts w (List.mem_cons_of_mem _ h)
  have hown : s.vm.findClass RX5 = some m.cls := findClass_of_methodNamed B.named
  have hlocks := B.notSynchronized
  subst hsz
  have hD := hD0.self (sz := s.heap.size)
  have hA : ∀ q : Nat, s.heap.size ≤ q → va_A (mW G ad iS iA (nI ln) iT iC iR r pr ar br f pf af bf tx) s.heap.size q := fun q h => Or.inr h
  have hl := lv_entry ([.ref (ad 0), .int z]) (n := 2) (Nat.le_of_ble_eq_true rfl)
  rw [lg_entry_eq]
  generalize (lg_sl ([.ref (ad 0), .int z]) ++ List.replicate (2 - (lg_sl ([.ref (ad 0), .int z])).length) Slot.unset).toArray = ls at hl ⊢
  replace hl : lv_has ls 2 [(0, .ref (ad 0)), (1, .int z)] := hl
  refine ol_start (A := va_A (mW G ad iS iA (nI ln) iT iC iR r pr ar br f pf af bf tx) s.heap.size) (fun H locs hH hS => ?_)
  rw [← hH] at hP
  clear hH
  refine lv_aload_n hx hb dX5_type_0 rfl (lv_at hl 0 rfl) ?_
  refine va_get (D := G.1) (ci := 12) (v := .int (nI ln)) (C := RX5) (T := TX5) (N := 15) hx hb hts in_X5 hown hE.1 hP 0 rfl rfl 11 (by decide) (hts _ q1146) (fun _ h9 => h9) rfl dX5_type_1 ?_
  refine lv_bipush (v := 60) hx hb dX5_type_4 (by decide) ?_
  refine ol_icmp_ne hx hb ln 60 (by omega) (by omega) (tgt := 12) dX5_type_6 (by decide) (fun c_6 => ?_) (fun c_6 => ?_)
  · refine lv_aload_n hx hb dX5_type_12 rfl (lv_at hl 0 rfl) ?_
    refine va_get (D := G.1) (ci := 12) (v := .ref (ad 9)) (C := RX5) (T := TX5) (N := 15) hx hb hts in_X5 hown hE.1 hP 0 rfl rfl 10 (by decide) (hts _ q1145) (fun _ h9 => h9) rfl dX5_type_13 ?_
    refine lv_aload_n hx hb dX5_type_16 rfl (lv_at hl 0 rfl) ?_
    refine va_get (D := G.1) (ci := 12) (v := .int (nI ln)) (C := RX5) (T := TX5) (N := 15) hx hb hts in_X5 hown hE.1 hP 0 rfl rfl 11 (by decide) (hts _ q1146) (fun _ h9 => h9) rfl dX5_type_17 ?_
    refine lv_iload_n hx hb dX5_type_20 rfl (lv_at hl 1 rfl) ?_
    refine va_cast hx hb hE.1 hP hD hS 9 4 rfl rfl (vp_in_nI (by omega) (by decide)) dX5_type_21 (fun H locs hP hD hS => ?_)
    rw [nI_clamp (by omega), hc] at hP hD
    replace hP : va_P G.1 cl0 (mW G ad iS iA (nI ln) iT iC iR r pr ar br f pf af bf (upd tx ln z)) H := hP
    replace hD : va_D (va_A (mW G ad iS iA (nI ln) iT iC iR r pr ar br f pf af bf tx) s.heap.size) (mW G ad iS iA (nI ln) iT iC iR r pr ar br f pf af bf (upd tx ln z)) := hD
    refine lv_aload_n hx hb dX5_type_22 rfl (lv_at hl 0 rfl) ?_
    refine lv_dup hx hb dX5_type_23 rfl ?_
    refine va_get (D := G.1) (ci := 12) (v := .int (nI ln)) (C := RX5) (T := TX5) (N := 15) hx hb hts in_X5 hown hE.1 hP 0 rfl rfl 11 (by decide) (hts _ q1146) (fun _ h9 => h9) rfl dX5_type_24 ?_
    refine lv_iconst (v := 1) hx hb dX5_type_27 (by decide) ?_
    refine ol_iadd hx hb ln 1 dX5_type_28 ?_
    refine va_put (D := G.1) (ci := 12) (v := .int (nI (ln + 1))) (ty := .int) (C := RX5) (T := TX5) (N := 15) hx hb hts in_X5 tyX5 tyX5_ok nmX5 hown hE.1 hP hD hS 0 rfl rfl 11 (by decide) (hts _ q1146) (fun _ h9 => h9) rfl (by decide +kernel) rfl rfl (Nat.le_of_ble_eq_true rfl) dX5_type_29 (fun H locs hP hD hS => ?_)
    replace hP : va_P G.1 cl0 (mW G ad iS iA (nI (ln + 1)) iT iC iR r pr ar br f pf af bf (upd tx ln z)) H := hP
    replace hD : va_D (va_A (mW G ad iS iA (nI ln) iT iC iR r pr ar br f pf af bf tx) s.heap.size) (mW G ad iS iA (nI (ln + 1)) iT iC iR r pr ar br f pf af bf (upd tx ln z)) := hD
    refine lv_aload_n hx hb dX5_type_32 rfl (lv_at hl 0 rfl) ?_
    refine va_get (D := G.1) (ci := 12) (v := .int (nI (ln + 1))) (C := RX5) (T := TX5) (N := 15) hx hb hts in_X5 hown hE.1 hP 0 rfl rfl 11 (by decide) (hts _ q1146) (fun _ h9 => h9) rfl dX5_type_33 ?_
    exact ol_iretE hx hb hr hlocks ⟨congrArg (fun z => some (Value.int z)) (by simp [zB, c_6]), (by simp [zB, c_6])⟩ hP hD hS dX5_type_36
  · refine lv_bipush (v := (-3)) hx hb dX5_type_9 (by decide) ?_
    exact ol_iretE hx hb hr hlocks ⟨congrArg (fun z => some (Value.int z)) (by simp [zB, c_6]), (by simp [zB, c_6])⟩ hP hD hS dX5_type_11
set_option maxHeartbeats 4000000 in
set_option maxRecDepth 100000 in
theorem mm_clearText (l : Launch) (G : oG) (ad : Nat → Nat) (iS : Int32) (iA : Int32) (ln : Nat) (iT : Int32) (iC : Int32) (iR : Int32) (r : Nat → Int32) (pr : Nat → Int32) (ar : Nat → Int32) (br : Nat → Int32) (f : Nat → UInt32) (pf : Nat → UInt32) (af : Nat → UInt32) (bf : Nat → UInt32) (tx : Nat → Int32)    (sz : Nat) : Met l yX5_clearText (ws_ yX5_clearText cX5_clearText 2 (some .int)) ({ frames := 0, cells := 0, slots := 0, locals := 0 }) (oPc G [.ref (ad 0)] (oPE G (mW G ad iS iA (nI ln) iT iC iR r pr ar br f pf af bf tx) sz (fun _ => True))) (oE G (fun v_ W_ => v_ = some (.int (nI ln)) ∧ W_ = mW G ad iS iA (nI 0) iT iC iR r pr ar br f pf af bf tx) (mW G ad iS iA (nI ln) iT iC iR r pr ar br f pf af bf tx) sz) 0 0 (va_A (mW G ad iS iA (nI ln) iT iC iR r pr ar br f pf af bf tx) sz) := by
  refine Met.ofW (cc := cX5_clearText) (maxL := 2) (ret := (some .int)) (by decide) rfl ?_
  intro p e s m args below meth c s₁ B hml hv
  obtain ⟨rfl, ⟨hsz, hP, hD0, hX⟩, hE⟩ := hv
  have hx := B.exec
  have hb := B.bytes
  have hr := B.returns
  have hts := atoms_spec (ws := ws_ yX5_clearText cX5_clearText 2 (some .int)) B.pre
  have hts : ∀ w ∈ lw_all, w.before _ s = true := fun w h => hts w (List.mem_cons_of_mem _ h)
  have hown : s.vm.findClass RX5 = some m.cls := findClass_of_methodNamed B.named
  have hlocks := B.notSynchronized
  subst hsz
  have hD := hD0.self (sz := s.heap.size)
  have hA : ∀ q : Nat, s.heap.size ≤ q → va_A (mW G ad iS iA (nI ln) iT iC iR r pr ar br f pf af bf tx) s.heap.size q := fun q h => Or.inr h
  have hl := lv_entry ([.ref (ad 0)]) (n := 2) (Nat.le_of_ble_eq_true rfl)
  rw [lg_entry_eq]
  generalize (lg_sl ([.ref (ad 0)]) ++ List.replicate (2 - (lg_sl ([.ref (ad 0)])).length) Slot.unset).toArray = ls at hl ⊢
  replace hl : lv_has ls 2 [(0, .ref (ad 0))] := hl
  refine ol_start (A := va_A (mW G ad iS iA (nI ln) iT iC iR r pr ar br f pf af bf tx) s.heap.size) (fun H locs hH hS => ?_)
  rw [← hH] at hP
  clear hH
  refine lv_aload_n hx hb dX5_clearText_0 rfl (lv_at hl 0 rfl) ?_
  refine va_get (D := G.1) (ci := 12) (v := .int (nI ln)) (C := RX5) (T := TX5) (N := 15) hx hb hts in_X5 hown hE.1 hP 0 rfl rfl 11 (by decide) (hts _ q1146) (fun _ h9 => h9) rfl dX5_clearText_1 ?_
  refine lv_istore_n (lv' := [(1, .int (nI ln)), (0, .ref (ad 0))]) hx hb dX5_clearText_4 rfl hl (by decide) rfl (fun ls hl => ?_)
  refine lv_aload_n hx hb dX5_clearText_5 rfl (lv_at hl 1 rfl) ?_
  refine lv_iconst (v := 0) hx hb dX5_clearText_6 (by decide) ?_
  refine va_put (D := G.1) (ci := 12) (v := .int 0) (ty := .int) (C := RX5) (T := TX5) (N := 15) hx hb hts in_X5 tyX5 tyX5_ok nmX5 hown hE.1 hP hD hS 0 rfl rfl 11 (by decide) (hts _ q1146) (fun _ h9 => h9) rfl (by decide +kernel) rfl rfl (Nat.le_of_ble_eq_true rfl) dX5_clearText_7 (fun H locs hP hD hS => ?_)
  replace hP : va_P G.1 cl0 (mW G ad iS iA 0 iT iC iR r pr ar br f pf af bf tx) H := hP
  replace hD : va_D (va_A (mW G ad iS iA (nI ln) iT iC iR r pr ar br f pf af bf tx) s.heap.size) (mW G ad iS iA 0 iT iC iR r pr ar br f pf af bf tx) := hD
  refine lv_iload_n hx hb dX5_clearText_10 rfl (lv_at hl 0 rfl) ?_
  exact ol_iretE hx hb hr hlocks ⟨congrArg (fun z => some (Value.int z)) rfl, rfl⟩ hP hD hS dX5_clearText_11
set_option maxHeartbeats 4000000 in
set_option maxRecDepth 100000 in
theorem mm_readsNumber (l : Launch) (G : oG) (ad : Nat → Nat) (iS : Int32) (iA : Int32) (ln : Nat) (t : Nat) (iC : Int32) (iR : Int32) (r : Nat → Int32) (pr : Nat → Int32) (ar : Nat → Int32) (br : Nat → Int32) (f : Nat → UInt32) (pf : Nat → UInt32) (af : Nat → UInt32) (bf : Nat → UInt32) (tx : Nat → Int32) (lo : Nat)  (h60 : ln ≤ 60) (ht : t ≤ ln) (hlo : lo ≤ 1) (sz : Nat) : Met l yX5_readsNumber (ws_ yX5_readsNumber cX5_readsNumber 3 (some .int)) ({ frames := 2, cells := 0, slots := 0, locals := 44 }) (oPc G [.ref (ad 0), .int (nI lo)] (oPE G (mW G ad iS iA (nI ln) (nI t) iC iR r pr ar br f pf af bf tx) sz (fun _ => True))) (oE G (fun v_ W_ => v_ = some (.int (mRnI tx t ln lo)) ∧ W_ = mW G ad iS iA (nI ln) (nI (mRnT tx t ln lo)) iC iR r pr ar br f pf af bf tx) (mW G ad iS iA (nI ln) (nI t) iC iR r pr ar br f pf af bf tx) sz) 0 0 (va_A (mW G ad iS iA (nI ln) (nI t) iC iR r pr ar br f pf af bf tx) sz) := by
  refine Met.ofW (cc := cX5_readsNumber) (maxL := 3) (ret := (some .int)) (by decide) rfl ?_
  intro p e s m args below meth c s₁ B hml hv
  obtain ⟨rfl, ⟨hsz, hP, hD0, hX⟩, hE⟩ := hv
  have hx := B.exec
  have hb := B.bytes
  have hr := B.returns
  have hts := atoms_spec (ws := ws_ yX5_readsNumber cX5_readsNumber 3 (some .int)) B.pre
  have hts : ∀ w ∈ lw_all, w.before _ s = true := fun w h => hts w (List.mem_cons_of_mem _ h)
  have hown : s.vm.findClass RX5 = some m.cls := findClass_of_methodNamed B.named
  have hlocks := B.notSynchronized
  subst hsz
  have hD := hD0.self (sz := s.heap.size)
  have hA : ∀ q : Nat, s.heap.size ≤ q → va_A (mW G ad iS iA (nI ln) (nI t) iC iR r pr ar br f pf af bf tx) s.heap.size q := fun q h => Or.inr h
  have hl := lv_entry ([.ref (ad 0), .int (nI lo)]) (n := 3) (Nat.le_of_ble_eq_true rfl)
  rw [lg_entry_eq]
  generalize (lg_sl ([.ref (ad 0), .int (nI lo)]) ++ List.replicate (3 - (lg_sl ([.ref (ad 0), .int (nI lo)])).length) Slot.unset).toArray = ls at hl ⊢
  replace hl : lv_has ls 3 [(0, .ref (ad 0)), (1, .int (nI lo))] := hl
  refine ol_start (A := va_A (mW G ad iS iA (nI ln) (nI t) iC iR r pr ar br f pf af bf tx) s.heap.size) (fun H locs hH hS => ?_)
  rw [← hH] at hP
  clear hH
  refine lv_aload_n hx hb dX5_readsNumber_0 rfl (lv_at hl 0 rfl) ?_
  refine lv_bipush (v := 48) hx hb dX5_readsNumber_1 (by decide) ?_
  refine lv_iload_n hx hb dX5_readsNumber_3 rfl (lv_at hl 1 rfl) ?_
  refine ol_iadd hx hb 48 lo dX5_readsNumber_4 ?_
  refine lv_bipush (v := 57) hx hb dX5_readsNumber_5 (by decide) ?_
  refine ol_cR (st1 := [.int (zB (mSees tx t ln (nI (48 + lo)) 57))]) (va_runV (As := [.int (nI (48 + lo)), .int 57]) (rest := []) ⟨hx, hb, hml, hown, hts⟩ (mr_sees l G ad iS iA ln t iC iR r pr ar br f pf af bf tx (nI (48 + lo)) 57 (by omega) (by omega)) (cwV 2 hts (lw_V q1371 q1373 qs50 q73 q1374) rfl rfl rfl (by decide +kernel) ⟨Nat.le_of_ble_eq_true rfl, Nat.le_of_ble_eq_true rfl⟩) (oPc.preV hE (hE.recv (ci := 12) (hP 0 _ rfl) rfl) hP) rfl rfl hl.1 rfl (lv_room (Nat.le_of_ble_eq_true rfl)) dX5_readsNumber_7 ⟨Nat.le_of_ble_eq_true rfl, Nat.le_of_ble_eq_true rfl⟩) rfl ?_
  refine ol_if_neB hx hb (mSees tx t ln (nI (48 + lo)) 57) (tgt := 15) dX5_readsNumber_10 (by decide) (fun c_10 => ?_) (fun c_10 => ?_)
  · obtain ⟨hs1, hs2⟩ := sees_t c_10
    obtain ⟨hs3, hs4, hs5⟩ := inR_ab (b := 57) ⟨by omega, by decide⟩ hs2
    refine lv_aload_n hx hb dX5_readsNumber_15 rfl (lv_at hl 0 rfl) ?_
    refine va_get (D := G.1) (ci := 12) (v := .ref (ad 9)) (C := RX5) (T := TX5) (N := 15) hx hb hts in_X5 hown hE.1 hP 0 rfl rfl 10 (by decide) (hts _ q1145) (fun _ h9 => h9) rfl dX5_readsNumber_16 ?_
    refine lv_aload_n hx hb dX5_readsNumber_19 rfl (lv_at hl 0 rfl) ?_
    refine va_get (D := G.1) (ci := 12) (v := .int (nI t)) (C := RX5) (T := TX5) (N := 15) hx hb hts in_X5 hown hE.1 hP 0 rfl rfl 12 (by decide) (hts _ q1147) (fun _ h9 => h9) rfl dX5_readsNumber_20 ?_
    refine ol_cald hx hb hE.1 hP 9 4 rfl rfl t (by omega) (by decide) dX5_readsNumber_23 ?_
    refine ol_top (y := nI (cN (tx t))) hs5 ?_
    refine lv_bipush (v := 48) hx hb dX5_readsNumber_24 (by decide) ?_
    refine ol_isub hx hb (cN (tx t)) 48 (by omega) dX5_readsNumber_26 ?_
    refine ol_top (y := nI (mDg tx t)) rfl ?_
    refine lv_istore_n (lv' := [(2, .int (nI (mDg tx t))), (0, .ref (ad 0)), (1, .int (nI lo))]) hx hb dX5_readsNumber_27 rfl hl (by decide) rfl (fun ls hl => ?_)
    have hdg : mDg tx t ≤ 9 := by unfold mDg; omega
    refine lv_aload_n hx hb dX5_readsNumber_28 rfl (lv_at hl 1 rfl) ?_
    refine lv_dup hx hb dX5_readsNumber_29 rfl ?_
    refine va_get (D := G.1) (ci := 12) (v := .int (nI t)) (C := RX5) (T := TX5) (N := 15) hx hb hts in_X5 hown hE.1 hP 0 rfl rfl 12 (by decide) (hts _ q1147) (fun _ h9 => h9) rfl dX5_readsNumber_30 ?_
    refine lv_iconst (v := 1) hx hb dX5_readsNumber_33 (by decide) ?_
    refine ol_iadd hx hb t 1 dX5_readsNumber_34 ?_
    refine va_put (D := G.1) (ci := 12) (v := .int (nI (t + 1))) (ty := .int) (C := RX5) (T := TX5) (N := 15) hx hb hts in_X5 tyX5 tyX5_ok nmX5 hown hE.1 hP hD hS 0 rfl rfl 12 (by decide) (hts _ q1147) (fun _ h9 => h9) rfl (by decide +kernel) rfl rfl (Nat.le_of_ble_eq_true rfl) dX5_readsNumber_35 (fun H locs hP hD hS => ?_)
    replace hP : va_P G.1 cl0 (mW G ad iS iA (nI ln) (nI (t + 1)) iC iR r pr ar br f pf af bf tx) H := hP
    replace hD : va_D (va_A (mW G ad iS iA (nI ln) (nI t) iC iR r pr ar br f pf af bf tx) s.heap.size) (mW G ad iS iA (nI ln) (nI (t + 1)) iC iR r pr ar br f pf af bf tx) := hD
    refine lv_iload_n hx hb dX5_readsNumber_38 rfl (lv_at hl 0 rfl) ?_
    refine ol_if_le hx hb (mDg tx t) (by omega) (tgt := 81) dX5_readsNumber_39 (by decide) (fun c_39 => ?_) (fun c_39 => ?_)
    · refine lv_iload_n hx hb dX5_readsNumber_81 rfl (lv_at hl 0 rfl) ?_
      exact ol_iretE hx hb hr hlocks ⟨congrArg (fun z => some (Value.int z)) (by simp [mRnI, mRnT, mRnV, mRn2, zB, c_10, c_39, Nat.not_lt.mpr c_39]), (by simp [mRnI, mRnT, mRnV, mRn2, zB, c_10, c_39, Nat.not_lt.mpr c_39])⟩ hP hD hS dX5_readsNumber_82
    · refine lv_aload_n hx hb dX5_readsNumber_42 rfl (lv_at hl 1 rfl) ?_
      refine lv_bipush (v := 48) hx hb dX5_readsNumber_43 (by decide) ?_
      refine lv_bipush (v := 57) hx hb dX5_readsNumber_45 (by decide) ?_
      refine ol_cR (st1 := [.int (zB (mSees tx (t + 1) ln 48 57))]) (va_runV (As := [.int 48, .int 57]) (rest := []) ⟨hx, hb, hml, hown, hts⟩ (mr_sees l G ad iS iA ln (t + 1) iC iR r pr ar br f pf af bf tx 48 57 (by omega) (by omega)) (cwV 2 hts (lw_V q1371 q1373 qs50 q73 q1374) rfl rfl rfl (by decide +kernel) ⟨Nat.le_of_ble_eq_true rfl, Nat.le_of_ble_eq_true rfl⟩) (oPc.preV hE (hE.recv (ci := 12) (hP 0 _ rfl) rfl) hP) rfl rfl hl.1 rfl (lv_room (Nat.le_of_ble_eq_true rfl)) dX5_readsNumber_47 ⟨Nat.le_of_ble_eq_true rfl, Nat.le_of_ble_eq_true rfl⟩) rfl ?_
      refine ol_if_eqB hx hb (mSees tx (t + 1) ln 48 57) (tgt := 81) dX5_readsNumber_50 (by decide) (fun c_50 => ?_) (fun c_50 => ?_)
      · refine lv_iload_n hx hb dX5_readsNumber_81 rfl (lv_at hl 0 rfl) ?_
        exact ol_iretE hx hb hr hlocks ⟨congrArg (fun z => some (Value.int z)) (by simp [mRnI, mRnT, mRnV, mRn2, zB, c_10, c_39, Nat.not_le.mpr c_39, c_50]), (by simp [mRnI, mRnT, mRnV, mRn2, zB, c_10, c_39, Nat.not_le.mpr c_39, c_50])⟩ hP hD hS dX5_readsNumber_82
      · obtain ⟨hu1, hu2⟩ := sees_t c_50
        obtain ⟨hu3, hu4, hu5⟩ := inR_ab (a := 48) (b := 57) ⟨by decide, by decide⟩ hu2
        refine lv_bipush (v := 10) hx hb dX5_readsNumber_53 (by decide) ?_
        refine lv_iload_n hx hb dX5_readsNumber_55 rfl (lv_at hl 0 rfl) ?_
        refine ol_imul hx hb 10 (mDg tx t) dX5_readsNumber_56 ?_
        refine lv_aload_n hx hb dX5_readsNumber_57 rfl (lv_at hl 1 rfl) ?_
        refine va_get (D := G.1) (ci := 12) (v := .ref (ad 9)) (C := RX5) (T := TX5) (N := 15) hx hb hts in_X5 hown hE.1 hP 0 rfl rfl 10 (by decide) (hts _ q1145) (fun _ h9 => h9) rfl dX5_readsNumber_58 ?_
        refine lv_aload_n hx hb dX5_readsNumber_61 rfl (lv_at hl 1 rfl) ?_
        refine va_get (D := G.1) (ci := 12) (v := .int (nI (t + 1))) (C := RX5) (T := TX5) (N := 15) hx hb hts in_X5 hown hE.1 hP 0 rfl rfl 12 (by decide) (hts _ q1147) (fun _ h9 => h9) rfl dX5_readsNumber_62 ?_
        refine ol_cald hx hb hE.1 hP 9 4 rfl rfl (t + 1) (by omega) (by decide) dX5_readsNumber_65 ?_
        refine ol_top (y := nI (cN (tx (t + 1)))) hu5 ?_
        refine ol_iadd hx hb (10 * (mDg tx t)) (cN (tx (t + 1))) dX5_readsNumber_66 ?_
        refine lv_bipush (v := 48) hx hb dX5_readsNumber_67 (by decide) ?_
        refine ol_isub hx hb (10 * (mDg tx t) + (cN (tx (t + 1)))) 48 (by omega) dX5_readsNumber_69 ?_
        refine lv_istore_n (lv' := [(2, .int (nI (10 * (mDg tx t) + (cN (tx (t + 1))) - 48))), (0, .ref (ad 0)), (1, .int (nI lo))]) hx hb dX5_readsNumber_70 rfl hl (by decide) rfl (fun ls hl => ?_)
        refine lv_aload_n hx hb dX5_readsNumber_71 rfl (lv_at hl 1 rfl) ?_
        refine lv_dup hx hb dX5_readsNumber_72 rfl ?_
        refine va_get (D := G.1) (ci := 12) (v := .int (nI (t + 1))) (C := RX5) (T := TX5) (N := 15) hx hb hts in_X5 hown hE.1 hP 0 rfl rfl 12 (by decide) (hts _ q1147) (fun _ h9 => h9) rfl dX5_readsNumber_73 ?_
        refine lv_iconst (v := 1) hx hb dX5_readsNumber_76 (by decide) ?_
        refine ol_iadd hx hb (t + 1) 1 dX5_readsNumber_77 ?_
        refine va_put (D := G.1) (ci := 12) (v := .int (nI (t + 1 + 1))) (ty := .int) (C := RX5) (T := TX5) (N := 15) hx hb hts in_X5 tyX5 tyX5_ok nmX5 hown hE.1 hP hD hS 0 rfl rfl 12 (by decide) (hts _ q1147) (fun _ h9 => h9) rfl (by decide +kernel) rfl rfl (Nat.le_of_ble_eq_true rfl) dX5_readsNumber_78 (fun H locs hP hD hS => ?_)
        replace hP : va_P G.1 cl0 (mW G ad iS iA (nI ln) (nI (t + 1 + 1)) iC iR r pr ar br f pf af bf tx) H := hP
        replace hD : va_D (va_A (mW G ad iS iA (nI ln) (nI t) iC iR r pr ar br f pf af bf tx) s.heap.size) (mW G ad iS iA (nI ln) (nI (t + 1 + 1)) iC iR r pr ar br f pf af bf tx) := hD
        refine lv_iload_n hx hb dX5_readsNumber_81 rfl (lv_at hl 0 rfl) ?_
        exact ol_iretE hx hb hr hlocks ⟨congrArg (fun z => some (Value.int z)) (by simp [mRnI, mRnT, mRnV, mRn2, zB, c_10, c_39, Nat.not_le.mpr c_39, c_50]), (by simp [mRnI, mRnT, mRnV, mRn2, zB, c_10, c_39, Nat.not_le.mpr c_39, c_50])⟩ hP hD hS dX5_readsNumber_82
  · refine lv_iconst (v := (-1)) hx hb dX5_readsNumber_13 (by decide) ?_
    exact ol_iretE hx hb hr hlocks ⟨congrArg (fun z => some (Value.int z)) (by simp [mRnI, mRnT, mRnV, mRn2, zB, c_10]), (by simp [mRnI, mRnT, mRnV, mRn2, zB, c_10])⟩ hP hD hS dX5_readsNumber_14
theorem mvA_k {r : Nat → Int32} {n : Nat} {tx : Nat → Int32} {t ln : Nat} (hn : 4 ≤ n ∧ n ≤ 48) (h99 : mRnV tx (t + 1 + 1) ln ≤ 99) (h : mvA r n tx t ln = 0) : mRnV tx (t + 1 + 1) ln < 48 := by
  have h0 : ¬ mvA r n tx t ln < 0 := by rw [h]; decide
  unfold mvA at h0
  split at h0
  · have := noK_f (mAP_ok h0).2.1 (by omega) hn.2
    rw [cN_nI (by omega)] at this; omega
  · have := noK_f (mAR_ok h0).2.1 (by omega) hn.2
    rw [cN_nI (by omega)] at this; omega
set_option maxHeartbeats 4000000 in
set_option maxRecDepth 100000 in
theorem mm_move (l : Launch) (G : oG) (ad : Nat → Nat) (iS : Int32) (iA : Int32) (ln : Nat) (t : Nat) (iC : Int32) (iR : Int32) (r : Nat → Int32) (pr : Nat → Int32) (ar : Nat → Int32) (br : Nat → Int32) (f : Nat → UInt32) (pf : Nat → UInt32) (af : Nat → UInt32) (bf : Nat → UInt32) (tx : Nat → Int32) (b : Bool) (Rw Cl : Nat) (h60 : ln ≤ 60) (ht : t ≤ ln) (hok : mMvOK b tx ln Rw Cl (t, r, f, 0, iC, iR)) (sz : Nat) : Met l yX5_move (ws_ yX5_move cX5_move 6 (some .int)) ({ frames := 6, cells := 0, slots := 0, locals := 155 }) (oPc G [.ref (ad 0), .int (zB b)] (oPE G (mW G ad iS iA (nI ln) (nI t) iC iR r pr ar br f pf af bf tx) sz (fun _ => True))) (oE G (fun v_ W_ => v_ = some (.int ((mMv b tx ln Rw Cl (t, r, f, 0, iC, iR)).2.2.2.1)) ∧ W_ = mW G ad iS iA (nI ln) (nI (mMv b tx ln Rw Cl (t, r, f, 0, iC, iR)).1) ((mMv b tx ln Rw Cl (t, r, f, 0, iC, iR)).2.2.2.2.1) ((mMv b tx ln Rw Cl (t, r, f, 0, iC, iR)).2.2.2.2.2) ((mMv b tx ln Rw Cl (t, r, f, 0, iC, iR)).2.1) pr ar br ((mMv b tx ln Rw Cl (t, r, f, 0, iC, iR)).2.2.1) pf af bf tx) (mW G ad iS iA (nI ln) (nI t) iC iR r pr ar br f pf af bf tx) sz) 0 0 (va_A (mW G ad iS iA (nI ln) (nI t) iC iR r pr ar br f pf af bf tx) sz) := by
  refine Met.ofW (cc := cX5_move) (maxL := 6) (ret := (some .int)) (by decide) rfl ?_
  intro p e s m args below meth c s₁ B hml hv
  obtain ⟨rfl, ⟨hsz, hP, hD0, hX⟩, hE⟩ := hv
  have hx := B.exec
  have hb := B.bytes
  have hr := B.returns
  have hts := atoms_spec (ws := ws_ yX5_move cX5_move 6 (some .int)) B.pre
  have hts : ∀ w ∈ lw_all, w.before _ s = true := fun w h => hts w (List.mem_cons_of_mem _ h)
  have hown : s.vm.findClass RX5 = some m.cls := findClass_of_methodNamed B.named
  have hlocks := B.notSynchronized
  subst hsz
  have hD := hD0.self (sz := s.heap.size)
  have hA : ∀ q : Nat, s.heap.size ≤ q → va_A (mW G ad iS iA (nI ln) (nI t) iC iR r pr ar br f pf af bf tx) s.heap.size q := fun q h => Or.inr h
  have hl := lv_entry ([.ref (ad 0), .int (zB b)]) (n := 6) (Nat.le_of_ble_eq_true rfl)
  rw [lg_entry_eq]
  generalize (lg_sl ([.ref (ad 0), .int (zB b)]) ++ List.replicate (6 - (lg_sl ([.ref (ad 0), .int (zB b)])).length) Slot.unset).toArray = ls at hl ⊢
  replace hl : lv_has ls 6 [(0, .ref (ad 0)), (1, .int (zB b))] := hl
  refine ol_start (A := va_A (mW G ad iS iA (nI ln) (nI t) iC iR r pr ar br f pf af bf tx) s.heap.size) (fun H locs hH hS => ?_)
  rw [← hH] at hP
  clear hH
  have hg : mG r Rw Cl := hok.1
  have hgn := mG_n hg
  have hg' := hg
  obtain ⟨hg0, hg1, hg2, hg3, hg4, hg5⟩ := hg'
  refine lv_aload_n hx hb dX5_move_0 rfl (lv_at hl 0 rfl) ?_
  refine lv_bipush (v := 116) hx hb dX5_move_1 (by decide) ?_
  refine lv_bipush (v := 116) hx hb dX5_move_3 (by decide) ?_
  refine ol_cR (st1 := [.int (zB (mSees tx t ln 116 116))]) (va_runV (As := [.int 116, .int 116]) (rest := []) ⟨hx, hb, hml, hown, hts⟩ (mr_sees l G ad iS iA ln t iC iR r pr ar br f pf af bf tx 116 116 (by omega) (by omega)) (cwV 2 hts (lw_V q1371 q1373 qs50 q73 q1374) rfl rfl rfl (by decide +kernel) ⟨Nat.le_of_ble_eq_true rfl, Nat.le_of_ble_eq_true rfl⟩) (oPc.preV hE (hE.recv (ci := 12) (hP 0 _ rfl) rfl) hP) rfl rfl hl.1 rfl (lv_room (Nat.le_of_ble_eq_true rfl)) dX5_move_5 ⟨Nat.le_of_ble_eq_true rfl, Nat.le_of_ble_eq_true rfl⟩) rfl ?_
  refine ol_if_eqB hx hb (mSees tx t ln 116 116) (tgt := 50) dX5_move_8 (by decide) (fun c_8 => ?_) (fun c_8 => ?_)
  · refine lv_aload_n hx hb dX5_move_50 rfl (lv_at hl 0 rfl) ?_
    refine lv_bipush (v := 48) hx hb dX5_move_51 (by decide) ?_
    refine lv_bipush (v := 49) hx hb dX5_move_53 (by decide) ?_
    refine ol_cR (st1 := [.int (zB (mSees tx t ln 48 49))]) (va_runV (As := [.int 48, .int 49]) (rest := []) ⟨hx, hb, hml, hown, hts⟩ (mr_sees l G ad iS iA ln t iC iR r pr ar br f pf af bf tx 48 49 (by omega) (by omega)) (cwV 2 hts (lw_V q1371 q1373 qs50 q73 q1374) rfl rfl rfl (by decide +kernel) ⟨Nat.le_of_ble_eq_true rfl, Nat.le_of_ble_eq_true rfl⟩) (oPc.preV hE (hE.recv (ci := 12) (hP 0 _ rfl) rfl) hP) rfl rfl hl.1 rfl (lv_room (Nat.le_of_ble_eq_true rfl)) dX5_move_55 ⟨Nat.le_of_ble_eq_true rfl, Nat.le_of_ble_eq_true rfl⟩) rfl ?_
    refine ol_if_neB hx hb (mSees tx t ln 48 49) (tgt := 64) dX5_move_58 (by decide) (fun c_58 => ?_) (fun c_58 => ?_)
    · obtain ⟨hs1, hs2⟩ := sees_t c_58
      obtain ⟨hs3, hs4, hs5⟩ := inR_ab (a := 48) (b := 49) ⟨by decide, by decide⟩ hs2
      refine lv_aload_n hx hb dX5_move_64 rfl (lv_at hl 0 rfl) ?_
      refine va_get (D := G.1) (ci := 12) (v := .ref (ad 9)) (C := RX5) (T := TX5) (N := 15) hx hb hts in_X5 hown hE.1 hP 0 rfl rfl 10 (by decide) (hts _ q1145) (fun _ h9 => h9) rfl dX5_move_65 ?_
      refine lv_aload_n hx hb dX5_move_68 rfl (lv_at hl 0 rfl) ?_
      refine va_get (D := G.1) (ci := 12) (v := .int (nI t)) (C := RX5) (T := TX5) (N := 15) hx hb hts in_X5 hown hE.1 hP 0 rfl rfl 12 (by decide) (hts _ q1147) (fun _ h9 => h9) rfl dX5_move_69 ?_
      refine ol_cald hx hb hE.1 hP 9 4 rfl rfl t (by omega) (by decide) dX5_move_72 ?_
      refine ol_top (y := nI (cN (tx t))) hs5 ?_
      refine lv_bipush (v := 48) hx hb dX5_move_73 (by decide) ?_
      refine ol_isub hx hb (cN (tx t)) 48 (by omega) dX5_move_75 ?_
      refine lv_istore_n (lv' := [(2, .int (nI (cN (tx t) - 48))), (0, .ref (ad 0)), (1, .int (zB b))]) hx hb dX5_move_76 rfl hl (by decide) rfl (fun ls hl => ?_)
      refine lv_aload_n hx hb dX5_move_77 rfl (lv_at hl 1 rfl) ?_
      refine lv_dup hx hb dX5_move_78 rfl ?_
      refine va_get (D := G.1) (ci := 12) (v := .int (nI t)) (C := RX5) (T := TX5) (N := 15) hx hb hts in_X5 hown hE.1 hP 0 rfl rfl 12 (by decide) (hts _ q1147) (fun _ h9 => h9) rfl dX5_move_79 ?_
      refine lv_iconst (v := 1) hx hb dX5_move_82 (by decide) ?_
      refine ol_iadd hx hb t 1 dX5_move_83 ?_
      refine va_put (D := G.1) (ci := 12) (v := .int (nI (t + 1))) (ty := .int) (C := RX5) (T := TX5) (N := 15) hx hb hts in_X5 tyX5 tyX5_ok nmX5 hown hE.1 hP hD hS 0 rfl rfl 12 (by decide) (hts _ q1147) (fun _ h9 => h9) rfl (by decide +kernel) rfl rfl (Nat.le_of_ble_eq_true rfl) dX5_move_84 (fun H locs hP hD hS => ?_)
      replace hP : va_P G.1 cl0 (mW G ad iS iA (nI ln) (nI (t + 1)) iC iR r pr ar br f pf af bf tx) H := hP
      replace hD : va_D (va_A (mW G ad iS iA (nI ln) (nI t) iC iR r pr ar br f pf af bf tx) s.heap.size) (mW G ad iS iA (nI ln) (nI (t + 1)) iC iR r pr ar br f pf af bf tx) := hD
      refine lv_aload_n hx hb dX5_move_87 rfl (lv_at hl 1 rfl) ?_
      refine lv_bipush (v := 100) hx hb dX5_move_88 (by decide) ?_
      refine lv_bipush (v := 100) hx hb dX5_move_90 (by decide) ?_
      refine ol_cR (st1 := [.int (zB (mSees tx (t + 1) ln 100 100))]) (va_runV (As := [.int 100, .int 100]) (rest := []) ⟨hx, hb, hml, hown, hts⟩ (mr_sees l G ad iS iA ln (t + 1) iC iR r pr ar br f pf af bf tx 100 100 (by omega) (by omega)) (cwV 2 hts (lw_V q1371 q1373 qs50 q73 q1374) rfl rfl rfl (by decide +kernel) ⟨Nat.le_of_ble_eq_true rfl, Nat.le_of_ble_eq_true rfl⟩) (oPc.preV hE (hE.recv (ci := 12) (hP 0 _ rfl) rfl) hP) rfl rfl hl.1 rfl (lv_room (Nat.le_of_ble_eq_true rfl)) dX5_move_92 ⟨Nat.le_of_ble_eq_true rfl, Nat.le_of_ble_eq_true rfl⟩) rfl ?_
      refine lv_istore_n (lv' := [(3, .int (zB (mSees tx (t + 1) ln 100 100))), (2, .int (nI (cN (tx t) - 48))), (0, .ref (ad 0)), (1, .int (zB b))]) hx hb dX5_move_95 rfl hl (by decide) rfl (fun ls hl => ?_)
      refine lv_iload_n hx hb dX5_move_96 rfl (lv_at hl 0 rfl) ?_
      refine ol_if_neB hx hb (mSees tx (t + 1) ln 100 100) (tgt := 114) dX5_move_97 (by decide) (fun c_97 => ?_) (fun c_97 => ?_)
      · obtain ⟨hv1, hv2⟩ := sees_t c_97
        refine lv_aload_n hx hb dX5_move_114 rfl (lv_at hl 2 rfl) ?_
        refine lv_dup hx hb dX5_move_115 rfl ?_
        refine va_get (D := G.1) (ci := 12) (v := .int (nI (t + 1))) (C := RX5) (T := TX5) (N := 15) hx hb hts in_X5 hown hE.1 hP 0 rfl rfl 12 (by decide) (hts _ q1147) (fun _ h9 => h9) rfl dX5_move_116 ?_
        refine lv_iconst (v := 1) hx hb dX5_move_119 (by decide) ?_
        refine ol_iadd hx hb (t + 1) 1 dX5_move_120 ?_
        refine va_put (D := G.1) (ci := 12) (v := .int (nI (t + 1 + 1))) (ty := .int) (C := RX5) (T := TX5) (N := 15) hx hb hts in_X5 tyX5 tyX5_ok nmX5 hown hE.1 hP hD hS 0 rfl rfl 12 (by decide) (hts _ q1147) (fun _ h9 => h9) rfl (by decide +kernel) rfl rfl (Nat.le_of_ble_eq_true rfl) dX5_move_121 (fun H locs hP hD hS => ?_)
        replace hP : va_P G.1 cl0 (mW G ad iS iA (nI ln) (nI (t + 1 + 1)) iC iR r pr ar br f pf af bf tx) H := hP
        replace hD : va_D (va_A (mW G ad iS iA (nI ln) (nI t) iC iR r pr ar br f pf af bf tx) s.heap.size) (mW G ad iS iA (nI ln) (nI (t + 1 + 1)) iC iR r pr ar br f pf af bf tx) := hD
        refine lv_aload_n hx hb dX5_move_124 rfl (lv_at hl 2 rfl) ?_
        refine lv_iconst (v := 0) hx hb dX5_move_125 (by decide) ?_
        refine ol_cM (st1 := [.int (mRnI tx (t + 1 + 1) ln 0)]) (va_runV (As := [.int 0]) (rest := []) ⟨hx, hb, hml, hown, hts⟩ (mm_readsNumber l G ad iS iA ln (t + 1 + 1) iC iR r pr ar br f pf af bf tx 0 (by omega) (by omega) (by omega) H.size) (cwV 1 hts (lw_V q1375 q1377 qs51 q73 q1378) rfl rfl rfl (by decide +kernel) ⟨Nat.le_of_ble_eq_true rfl, Nat.le_of_ble_eq_true rfl⟩) (oPc.preV hE (hE.recv (ci := 12) (hP 0 _ rfl) rfl) ⟨rfl, hP, oD_weak hD (fun _ _ => trivial), trivial⟩) rfl rfl hl.1 rfl (lv_room (Nat.le_of_ble_eq_true rfl)) dX5_move_126 ⟨Nat.le_of_ble_eq_true rfl, Nat.le_of_ble_eq_true rfl⟩) hP hD hS hA rfl (fun H locs hP hD hS => ?_)
        refine lv_istore (lv' := [(4, .int (mRnI tx (t + 1 + 1) ln 0)), (3, .int (zB (mSees tx (t + 1) ln 100 100))), (2, .int (nI (cN (tx t) - 48))), (0, .ref (ad 0)), (1, .int (zB b))]) hx hb dX5_move_129 hl (by decide) rfl (fun ls hl => ?_)
        refine lv_iload hx hb dX5_move_131 (lv_at hl 0 rfl) ?_
        refine lv_if_ge (tgt := 139) hx hb dX5_move_133 (by decide) (fun c_133 => ?_) (fun c_133 => ?_)
        · obtain ⟨hr1, hr2, hr3⟩ := mRnI_0 (by omega) (Int32.not_lt.mpr c_133)
          refine lv_iload_n hx hb dX5_move_139 rfl (lv_at hl 4 rfl) ?_
          refine ol_if_neB hx hb b (tgt := 145) dX5_move_140 (by decide) (fun c_140 => ?_) (fun c_140 => ?_)
          · refine lv_iload_n hx hb dX5_move_145 rfl (lv_at hl 1 rfl) ?_
            refine ol_if_eqB hx hb (mSees tx (t + 1) ln 100 100) (tgt := 159) dX5_move_146 (by decide) (fun c_146 => ?_) (fun c_146 => ?_)
            · exact absurd (c_97.symm.trans c_146) (by decide)
            · refine lv_aload_n hx hb dX5_move_149 rfl (lv_at hl 3 rfl) ?_
              refine lv_iload_n hx hb dX5_move_150 rfl (lv_at hl 2 rfl) ?_
              refine lv_iload hx hb dX5_move_151 (lv_at hl 0 rfl) ?_
              refine ol_top (y := nI (mRnV tx (t + 1 + 1) ln)) hr2 ?_
              refine ol_cR (st1 := [.int (mAP r (Rw * Cl) (nI (cN (tx t) - 48)) (nI (mRnV tx (t + 1 + 1) ln)))]) (va_runV (As := [.int (nI (cN (tx t) - 48)), .int (nI (mRnV tx (t + 1 + 1) ln))]) (rest := []) ⟨hx, hb, hml, hown, hts⟩ (mr_againstPress l G ad iS iA (nI ln) (nI (mRnT tx (t + 1 + 1) ln 0)) iC iR r pr ar br f pf af bf tx (nI (cN (tx t) - 48)) (nI (mRnV tx (t + 1 + 1) ln)) Rw Cl hg) (cwV 2 hts (lw_V q1268 q1270 qs31 q73 q1271) rfl rfl rfl (by decide +kernel) ⟨Nat.le_of_ble_eq_true rfl, Nat.le_of_ble_eq_true rfl⟩) (oPc.preV hE (hE.recv (ci := 12) (hP 0 _ rfl) rfl) hP) rfl rfl hl.1 rfl (lv_room (Nat.le_of_ble_eq_true rfl)) dX5_move_153 ⟨Nat.le_of_ble_eq_true rfl, Nat.le_of_ble_eq_true rfl⟩) rfl ?_
              refine lv_goto (tgt := 166) hx hb dX5_move_156 (by decide) ?_
              refine ol_top (y := mvA r (Rw * Cl) tx t ln) (by unfold mvA; rw [if_pos c_146]) ?_
              refine lv_istore (lv' := [(5, .int (mvA r (Rw * Cl) tx t ln)), (4, .int (mRnI tx (t + 1 + 1) ln 0)), (3, .int (zB (mSees tx (t + 1) ln 100 100))), (2, .int (nI (cN (tx t) - 48))), (0, .ref (ad 0)), (1, .int (zB b))]) hx hb dX5_move_166 hl (by decide) rfl (fun ls hl => ?_)
              refine lv_iload hx hb dX5_move_168 (lv_at hl 0 rfl) ?_
              refine lv_if_ne (tgt := 193) hx hb dX5_move_170 (by decide) (fun c_170 => ?_) (fun c_170 => ?_)
              · refine lv_iload hx hb dX5_move_193 (lv_at hl 0 rfl) ?_
                have he : mMv b tx ln Rw Cl (t, r, f, 0, iC, iR) = (mRnT tx (t + 1 + 1) ln 0, r, f, mvA r (Rw * Cl) tx t ln, iC, iR) := by simp [mMv, mvOK, mvT, mvH, c_8, c_58, c_97, c_133, Int32.not_lt.mpr c_133, hr1, c_140, c_146, c_170]
                exact ol_iretE hx hb hr hlocks ⟨congrArg (fun z => some (Value.int z)) (by rw [he]), (by rw [he])⟩ hP hD hS dX5_move_195
              · have hk48 : mRnV tx (t + 1 + 1) ln < 48 := mvA_k hgn hr3 c_170
                refine lv_aload_n hx hb dX5_move_173 rfl (lv_at hl 4 rfl) ?_
                refine va_get (D := G.1) (ci := 12) (v := .ref (ad 1)) (C := RX5) (T := TX5) (N := 15) hx hb hts in_X5 hown hE.1 hP 0 rfl rfl 0 (by decide) (hts _ q1135) (fun _ h9 => h9) rfl dX5_move_174 ?_
                refine lv_bipush (v := 20) hx hb dX5_move_177 (by decide) ?_
                refine lv_iload hx hb dX5_move_179 (lv_at hl 1 rfl) ?_
                refine ol_top (y := nI (mRnV tx (t + 1 + 1) ln)) hr2 ?_
                refine ol_iadd hx hb 20 (mRnV tx (t + 1 + 1) ln) dX5_move_181 ?_
                refine lv_iload_n hx hb dX5_move_182 rfl (lv_at hl 2 rfl) ?_
                refine ol_if_eqB hx hb (mSees tx (t + 1) ln 100 100) (tgt := 190) dX5_move_183 (by decide) (fun c_183 => ?_) (fun c_183 => ?_)
                · exact absurd (c_97.symm.trans c_183) (by decide)
                · refine lv_iload_n hx hb dX5_move_186 rfl (lv_at hl 3 rfl) ?_
                  refine lv_goto (tgt := 192) hx hb dX5_move_187 (by decide) ?_
                  refine ol_iast hx hb hE.1 hP hD hS 1 0 rfl rfl (20 + (mRnV tx (t + 1 + 1) ln)) (by omega) (by decide) dX5_move_192 (fun H locs hP hD hS => ?_)
                  replace hP : va_P G.1 cl0 (mW G ad iS iA (nI ln) (nI (mRnT tx (t + 1 + 1) ln 0)) iC iR (upd r (20 + (mRnV tx (t + 1 + 1) ln)) (nI (cN (tx t) - 48))) pr ar br f pf af bf tx) H := hP
                  replace hD : va_D (va_A (mW G ad iS iA (nI ln) (nI t) iC iR r pr ar br f pf af bf tx) s.heap.size) (mW G ad iS iA (nI ln) (nI (mRnT tx (t + 1 + 1) ln 0)) iC iR (upd r (20 + (mRnV tx (t + 1 + 1) ln)) (nI (cN (tx t) - 48))) pr ar br f pf af bf tx) := hD
                  refine lv_iload hx hb dX5_move_193 (lv_at hl 0 rfl) ?_
                  have he : mMv b tx ln Rw Cl (t, r, f, 0, iC, iR) = (mRnT tx (t + 1 + 1) ln 0, upd r (20 + (mRnV tx (t + 1 + 1) ln)) (nI (cN (tx t) - 48)), f, mvA r (Rw * Cl) tx t ln, iC, iR) := by simp [mMv, mvOK, mvT, mvH, c_8, c_58, c_97, c_133, Int32.not_lt.mpr c_133, hr1, c_140, c_146, c_170, c_183]
                  exact ol_iretE hx hb hr hlocks ⟨congrArg (fun z => some (Value.int z)) (by rw [he]), (by rw [he])⟩ hP hD hS dX5_move_195
          · refine lv_iconst (v := 0) hx hb dX5_move_143 (by decide) ?_
            have he : mMv b tx ln Rw Cl (t, r, f, 0, iC, iR) = (mRnT tx (t + 1 + 1) ln 0, r, f, 0, iC, iR) := by simp [mMv, mvOK, mvT, mvH, c_8, c_58, c_97, c_133, Int32.not_lt.mpr c_133, hr1, c_140]
            exact ol_iretE hx hb hr hlocks ⟨congrArg (fun z => some (Value.int z)) (by rw [he]), (by rw [he])⟩ hP hD hS dX5_move_144
        · have hr1 := mRnI_1 (by omega) (Int32.not_le.mp c_133)
          refine lv_bipush (v := (-100)) hx hb dX5_move_136 (by decide) ?_
          have he : mMv b tx ln Rw Cl (t, r, f, 0, iC, iR) = (mRnT tx (t + 1 + 1) ln 0, r, f, (-100), iC, iR) := by simp [mMv, mvOK, mvT, mvH, c_8, c_58, c_97, c_133, Int32.not_le.mp c_133, hr1]
          exact ol_iretE hx hb hr hlocks ⟨congrArg (fun z => some (Value.int z)) (by rw [he]), (by rw [he])⟩ hP hD hS dX5_move_138
      · refine lv_aload_n hx hb dX5_move_100 rfl (lv_at hl 2 rfl) ?_
        refine lv_bipush (v := 117) hx hb dX5_move_101 (by decide) ?_
        refine lv_bipush (v := 117) hx hb dX5_move_103 (by decide) ?_
        refine ol_cR (st1 := [.int (zB (mSees tx (t + 1) ln 117 117))]) (va_runV (As := [.int 117, .int 117]) (rest := []) ⟨hx, hb, hml, hown, hts⟩ (mr_sees l G ad iS iA ln (t + 1) iC iR r pr ar br f pf af bf tx 117 117 (by omega) (by omega)) (cwV 2 hts (lw_V q1371 q1373 qs50 q73 q1374) rfl rfl rfl (by decide +kernel) ⟨Nat.le_of_ble_eq_true rfl, Nat.le_of_ble_eq_true rfl⟩) (oPc.preV hE (hE.recv (ci := 12) (hP 0 _ rfl) rfl) hP) rfl rfl hl.1 rfl (lv_room (Nat.le_of_ble_eq_true rfl)) dX5_move_105 ⟨Nat.le_of_ble_eq_true rfl, Nat.le_of_ble_eq_true rfl⟩) rfl ?_
        refine ol_if_neB hx hb (mSees tx (t + 1) ln 117 117) (tgt := 114) dX5_move_108 (by decide) (fun c_108 => ?_) (fun c_108 => ?_)
        · obtain ⟨hv1, hv2⟩ := sees_t c_108
          refine lv_aload_n hx hb dX5_move_114 rfl (lv_at hl 2 rfl) ?_
          refine lv_dup hx hb dX5_move_115 rfl ?_
          refine va_get (D := G.1) (ci := 12) (v := .int (nI (t + 1))) (C := RX5) (T := TX5) (N := 15) hx hb hts in_X5 hown hE.1 hP 0 rfl rfl 12 (by decide) (hts _ q1147) (fun _ h9 => h9) rfl dX5_move_116 ?_
          refine lv_iconst (v := 1) hx hb dX5_move_119 (by decide) ?_
          refine ol_iadd hx hb (t + 1) 1 dX5_move_120 ?_
          refine va_put (D := G.1) (ci := 12) (v := .int (nI (t + 1 + 1))) (ty := .int) (C := RX5) (T := TX5) (N := 15) hx hb hts in_X5 tyX5 tyX5_ok nmX5 hown hE.1 hP hD hS 0 rfl rfl 12 (by decide) (hts _ q1147) (fun _ h9 => h9) rfl (by decide +kernel) rfl rfl (Nat.le_of_ble_eq_true rfl) dX5_move_121 (fun H locs hP hD hS => ?_)
          replace hP : va_P G.1 cl0 (mW G ad iS iA (nI ln) (nI (t + 1 + 1)) iC iR r pr ar br f pf af bf tx) H := hP
          replace hD : va_D (va_A (mW G ad iS iA (nI ln) (nI t) iC iR r pr ar br f pf af bf tx) s.heap.size) (mW G ad iS iA (nI ln) (nI (t + 1 + 1)) iC iR r pr ar br f pf af bf tx) := hD
          refine lv_aload_n hx hb dX5_move_124 rfl (lv_at hl 2 rfl) ?_
          refine lv_iconst (v := 0) hx hb dX5_move_125 (by decide) ?_
          refine ol_cM (st1 := [.int (mRnI tx (t + 1 + 1) ln 0)]) (va_runV (As := [.int 0]) (rest := []) ⟨hx, hb, hml, hown, hts⟩ (mm_readsNumber l G ad iS iA ln (t + 1 + 1) iC iR r pr ar br f pf af bf tx 0 (by omega) (by omega) (by omega) H.size) (cwV 1 hts (lw_V q1375 q1377 qs51 q73 q1378) rfl rfl rfl (by decide +kernel) ⟨Nat.le_of_ble_eq_true rfl, Nat.le_of_ble_eq_true rfl⟩) (oPc.preV hE (hE.recv (ci := 12) (hP 0 _ rfl) rfl) ⟨rfl, hP, oD_weak hD (fun _ _ => trivial), trivial⟩) rfl rfl hl.1 rfl (lv_room (Nat.le_of_ble_eq_true rfl)) dX5_move_126 ⟨Nat.le_of_ble_eq_true rfl, Nat.le_of_ble_eq_true rfl⟩) hP hD hS hA rfl (fun H locs hP hD hS => ?_)
          refine lv_istore (lv' := [(4, .int (mRnI tx (t + 1 + 1) ln 0)), (3, .int (zB (mSees tx (t + 1) ln 100 100))), (2, .int (nI (cN (tx t) - 48))), (0, .ref (ad 0)), (1, .int (zB b))]) hx hb dX5_move_129 hl (by decide) rfl (fun ls hl => ?_)
          refine lv_iload hx hb dX5_move_131 (lv_at hl 0 rfl) ?_
          refine lv_if_ge (tgt := 139) hx hb dX5_move_133 (by decide) (fun c_133 => ?_) (fun c_133 => ?_)
          · obtain ⟨hr1, hr2, hr3⟩ := mRnI_0 (by omega) (Int32.not_lt.mpr c_133)
            refine lv_iload_n hx hb dX5_move_139 rfl (lv_at hl 4 rfl) ?_
            refine ol_if_neB hx hb b (tgt := 145) dX5_move_140 (by decide) (fun c_140 => ?_) (fun c_140 => ?_)
            · refine lv_iload_n hx hb dX5_move_145 rfl (lv_at hl 1 rfl) ?_
              refine ol_if_eqB hx hb (mSees tx (t + 1) ln 100 100) (tgt := 159) dX5_move_146 (by decide) (fun c_146 => ?_) (fun c_146 => ?_)
              · refine lv_aload_n hx hb dX5_move_159 rfl (lv_at hl 3 rfl) ?_
                refine lv_iload_n hx hb dX5_move_160 rfl (lv_at hl 2 rfl) ?_
                refine lv_iload hx hb dX5_move_161 (lv_at hl 0 rfl) ?_
                refine ol_top (y := nI (mRnV tx (t + 1 + 1) ln)) hr2 ?_
                refine ol_cR (st1 := [.int (mAR r (Rw * Cl) (nI (cN (tx t) - 48)) (nI (mRnV tx (t + 1 + 1) ln)))]) (va_runV (As := [.int (nI (cN (tx t) - 48)), .int (nI (mRnV tx (t + 1 + 1) ln))]) (rest := []) ⟨hx, hb, hml, hown, hts⟩ (mr_againstRelease l G ad iS iA (nI ln) (nI (mRnT tx (t + 1 + 1) ln 0)) iC iR r pr ar br f pf af bf tx (nI (cN (tx t) - 48)) (nI (mRnV tx (t + 1 + 1) ln)) Rw Cl hg) (cwV 2 hts (lw_V q1280 q1282 qs33 q73 q1283) rfl rfl rfl (by decide +kernel) ⟨Nat.le_of_ble_eq_true rfl, Nat.le_of_ble_eq_true rfl⟩) (oPc.preV hE (hE.recv (ci := 12) (hP 0 _ rfl) rfl) hP) rfl rfl hl.1 rfl (lv_room (Nat.le_of_ble_eq_true rfl)) dX5_move_163 ⟨Nat.le_of_ble_eq_true rfl, Nat.le_of_ble_eq_true rfl⟩) rfl ?_
                refine ol_top (y := mvA r (Rw * Cl) tx t ln) (by unfold mvA; rw [if_neg (by rw [c_146]; decide)]) ?_
                refine lv_istore (lv' := [(5, .int (mvA r (Rw * Cl) tx t ln)), (4, .int (mRnI tx (t + 1 + 1) ln 0)), (3, .int (zB (mSees tx (t + 1) ln 100 100))), (2, .int (nI (cN (tx t) - 48))), (0, .ref (ad 0)), (1, .int (zB b))]) hx hb dX5_move_166 hl (by decide) rfl (fun ls hl => ?_)
                refine lv_iload hx hb dX5_move_168 (lv_at hl 0 rfl) ?_
                refine lv_if_ne (tgt := 193) hx hb dX5_move_170 (by decide) (fun c_170 => ?_) (fun c_170 => ?_)
                · refine lv_iload hx hb dX5_move_193 (lv_at hl 0 rfl) ?_
                  have he : mMv b tx ln Rw Cl (t, r, f, 0, iC, iR) = (mRnT tx (t + 1 + 1) ln 0, r, f, mvA r (Rw * Cl) tx t ln, iC, iR) := by simp [mMv, mvOK, mvT, mvH, c_8, c_58, c_97, c_108, c_133, Int32.not_lt.mpr c_133, hr1, c_140, c_146, c_170]
                  exact ol_iretE hx hb hr hlocks ⟨congrArg (fun z => some (Value.int z)) (by rw [he]), (by rw [he])⟩ hP hD hS dX5_move_195
                · have hk48 : mRnV tx (t + 1 + 1) ln < 48 := mvA_k hgn hr3 c_170
                  refine lv_aload_n hx hb dX5_move_173 rfl (lv_at hl 4 rfl) ?_
                  refine va_get (D := G.1) (ci := 12) (v := .ref (ad 1)) (C := RX5) (T := TX5) (N := 15) hx hb hts in_X5 hown hE.1 hP 0 rfl rfl 0 (by decide) (hts _ q1135) (fun _ h9 => h9) rfl dX5_move_174 ?_
                  refine lv_bipush (v := 20) hx hb dX5_move_177 (by decide) ?_
                  refine lv_iload hx hb dX5_move_179 (lv_at hl 1 rfl) ?_
                  refine ol_top (y := nI (mRnV tx (t + 1 + 1) ln)) hr2 ?_
                  refine ol_iadd hx hb 20 (mRnV tx (t + 1 + 1) ln) dX5_move_181 ?_
                  refine lv_iload_n hx hb dX5_move_182 rfl (lv_at hl 2 rfl) ?_
                  refine ol_if_eqB hx hb (mSees tx (t + 1) ln 100 100) (tgt := 190) dX5_move_183 (by decide) (fun c_183 => ?_) (fun c_183 => ?_)
                  · refine lv_bipush (v := (-5)) hx hb dX5_move_190 (by decide) ?_
                    refine ol_iast hx hb hE.1 hP hD hS 1 0 rfl rfl (20 + (mRnV tx (t + 1 + 1) ln)) (by omega) (by decide) dX5_move_192 (fun H locs hP hD hS => ?_)
                    replace hP : va_P G.1 cl0 (mW G ad iS iA (nI ln) (nI (mRnT tx (t + 1 + 1) ln 0)) iC iR (upd r (20 + (mRnV tx (t + 1 + 1) ln)) (-5)) pr ar br f pf af bf tx) H := hP
                    replace hD : va_D (va_A (mW G ad iS iA (nI ln) (nI t) iC iR r pr ar br f pf af bf tx) s.heap.size) (mW G ad iS iA (nI ln) (nI (mRnT tx (t + 1 + 1) ln 0)) iC iR (upd r (20 + (mRnV tx (t + 1 + 1) ln)) (-5)) pr ar br f pf af bf tx) := hD
                    refine lv_iload hx hb dX5_move_193 (lv_at hl 0 rfl) ?_
                    have he : mMv b tx ln Rw Cl (t, r, f, 0, iC, iR) = (mRnT tx (t + 1 + 1) ln 0, upd r (20 + (mRnV tx (t + 1 + 1) ln)) (-5), f, mvA r (Rw * Cl) tx t ln, iC, iR) := by simp [mMv, mvOK, mvT, mvH, c_8, c_58, c_97, c_108, c_133, Int32.not_lt.mpr c_133, hr1, c_140, c_146, c_170, c_183]
                    exact ol_iretE hx hb hr hlocks ⟨congrArg (fun z => some (Value.int z)) (by rw [he]), (by rw [he])⟩ hP hD hS dX5_move_195
                  · exact absurd (c_183.symm.trans c_97) (by decide)
              · exact absurd (c_146.symm.trans c_97) (by decide)
            · refine lv_iconst (v := 0) hx hb dX5_move_143 (by decide) ?_
              have he : mMv b tx ln Rw Cl (t, r, f, 0, iC, iR) = (mRnT tx (t + 1 + 1) ln 0, r, f, 0, iC, iR) := by simp [mMv, mvOK, mvT, mvH, c_8, c_58, c_97, c_108, c_133, Int32.not_lt.mpr c_133, hr1, c_140]
              exact ol_iretE hx hb hr hlocks ⟨congrArg (fun z => some (Value.int z)) (by rw [he]), (by rw [he])⟩ hP hD hS dX5_move_144
          · have hr1 := mRnI_1 (by omega) (Int32.not_le.mp c_133)
            refine lv_bipush (v := (-100)) hx hb dX5_move_136 (by decide) ?_
            have he : mMv b tx ln Rw Cl (t, r, f, 0, iC, iR) = (mRnT tx (t + 1 + 1) ln 0, r, f, (-100), iC, iR) := by simp [mMv, mvOK, mvT, mvH, c_8, c_58, c_97, c_108, c_133, Int32.not_le.mp c_133, hr1]
            exact ol_iretE hx hb hr hlocks ⟨congrArg (fun z => some (Value.int z)) (by rw [he]), (by rw [he])⟩ hP hD hS dX5_move_138
        · refine lv_bipush (v := (-100)) hx hb dX5_move_111 (by decide) ?_
          have he : mMv b tx ln Rw Cl (t, r, f, 0, iC, iR) = (t + 1, r, f, (-100), iC, iR) := by simp [mMv, mvOK, mvT, mvH, c_8, c_58, c_97, c_108]
          exact ol_iretE hx hb hr hlocks ⟨congrArg (fun z => some (Value.int z)) (by rw [he]), (by rw [he])⟩ hP hD hS dX5_move_113
    · refine lv_bipush (v := (-100)) hx hb dX5_move_61 (by decide) ?_
      have he : mMv b tx ln Rw Cl (t, r, f, 0, iC, iR) = (t, r, f, (-100), iC, iR) := by simp [mMv, mvOK, mvT, mvH, c_8, c_58]
      exact ol_iretE hx hb hr hlocks ⟨congrArg (fun z => some (Value.int z)) (by rw [he]), (by rw [he])⟩ hP hD hS dX5_move_63
  · obtain ⟨hs1, hs2⟩ := sees_t c_8
    refine lv_aload_n hx hb dX5_move_11 rfl (lv_at hl 0 rfl) ?_
    refine lv_dup hx hb dX5_move_12 rfl ?_
    refine va_get (D := G.1) (ci := 12) (v := .int (nI t)) (C := RX5) (T := TX5) (N := 15) hx hb hts in_X5 hown hE.1 hP 0 rfl rfl 12 (by decide) (hts _ q1147) (fun _ h9 => h9) rfl dX5_move_13 ?_
    refine lv_iconst (v := 1) hx hb dX5_move_16 (by decide) ?_
    refine ol_iadd hx hb t 1 dX5_move_17 ?_
    refine va_put (D := G.1) (ci := 12) (v := .int (nI (t + 1))) (ty := .int) (C := RX5) (T := TX5) (N := 15) hx hb hts in_X5 tyX5 tyX5_ok nmX5 hown hE.1 hP hD hS 0 rfl rfl 12 (by decide) (hts _ q1147) (fun _ h9 => h9) rfl (by decide +kernel) rfl rfl (Nat.le_of_ble_eq_true rfl) dX5_move_18 (fun H locs hP hD hS => ?_)
    replace hP : va_P G.1 cl0 (mW G ad iS iA (nI ln) (nI (t + 1)) iC iR r pr ar br f pf af bf tx) H := hP
    replace hD : va_D (va_A (mW G ad iS iA (nI ln) (nI t) iC iR r pr ar br f pf af bf tx) s.heap.size) (mW G ad iS iA (nI ln) (nI (t + 1)) iC iR r pr ar br f pf af bf tx) := hD
    refine lv_aload_n hx hb dX5_move_21 rfl (lv_at hl 0 rfl) ?_
    refine lv_iconst (v := 1) hx hb dX5_move_22 (by decide) ?_
    refine ol_cM (st1 := [.int (mRnI tx (t + 1) ln 1)]) (va_runV (As := [.int 1]) (rest := []) ⟨hx, hb, hml, hown, hts⟩ (mm_readsNumber l G ad iS iA ln (t + 1) iC iR r pr ar br f pf af bf tx 1 (by omega) (by omega) (by omega) H.size) (cwV 1 hts (lw_V q1375 q1377 qs51 q73 q1378) rfl rfl rfl (by decide +kernel) ⟨Nat.le_of_ble_eq_true rfl, Nat.le_of_ble_eq_true rfl⟩) (oPc.preV hE (hE.recv (ci := 12) (hP 0 _ rfl) rfl) ⟨rfl, hP, oD_weak hD (fun _ _ => trivial), trivial⟩) rfl rfl hl.1 rfl (lv_room (Nat.le_of_ble_eq_true rfl)) dX5_move_23 ⟨Nat.le_of_ble_eq_true rfl, Nat.le_of_ble_eq_true rfl⟩) hP hD hS hA rfl (fun H locs hP hD hS => ?_)
    refine lv_istore_n (lv' := [(2, .int (mRnI tx (t + 1) ln 1)), (0, .ref (ad 0)), (1, .int (zB b))]) hx hb dX5_move_26 rfl hl (by decide) rfl (fun ls hl => ?_)
    refine lv_iload_n hx hb dX5_move_27 rfl (lv_at hl 0 rfl) ?_
    refine lv_if_ge (tgt := 36) hx hb dX5_move_28 (by decide) (fun c_28 => ?_) (fun c_28 => ?_)
    · obtain ⟨hr1, hr2, hr3⟩ := mRnI_0 (by omega) (Int32.not_lt.mpr c_28)
      refine lv_iload_n hx hb dX5_move_36 rfl (lv_at hl 2 rfl) ?_
      refine ol_if_eqB hx hb b (tgt := 48) dX5_move_37 (by decide) (fun c_37 => ?_) (fun c_37 => ?_)
      · refine lv_iconst (v := 0) hx hb dX5_move_48 (by decide) ?_
        have he : mMv b tx ln Rw Cl (t, r, f, 0, iC, iR) = (mRnT tx (t + 1) ln 1, r, f, 0, iC, iR) := by simp [mMv, mvOK, mvT, mvH, c_8, c_28, Int32.not_lt.mpr c_28, hr1, c_37]
        exact ol_iretE hx hb hr hlocks ⟨congrArg (fun z => some (Value.int z)) (by rw [he]), (by rw [he])⟩ hP hD hS dX5_move_49
      · refine lv_aload_n hx hb dX5_move_40 rfl (lv_at hl 1 rfl) ?_
        refine lv_iload_n hx hb dX5_move_41 rfl (lv_at hl 0 rfl) ?_
        refine ol_top (y := nI (mRnV tx (t + 1) ln)) hr2 ?_
        refine ol_cM (st1 := [.int (nI ((mIt r f iC iR Rw Cl (mRnV tx (t + 1) ln)).2.2.1))]) (va_runV (As := [.int (nI (mRnV tx (t + 1) ln))]) (rest := []) ⟨hx, hb, hml, hown, hts⟩ (mm_steps l G ad iS iA (nI ln) (nI (mRnT tx (t + 1) ln 1)) iC iR r pr ar br f pf af bf tx (mRnV tx (t + 1) ln) Rw Cl hr3 (hok.2 c_37 (by simp [mvOK, c_8, hr1]) c_8) H.size) (cwV 1 hts (lw_V q1288 q1290 qs34 q73 q1291) rfl rfl rfl (by decide +kernel) ⟨Nat.le_of_ble_eq_true rfl, Nat.le_of_ble_eq_true rfl⟩) (oPc.preV hE (hE.recv (ci := 12) (hP 0 _ rfl) rfl) ⟨rfl, hP, oD_weak hD (fun _ _ => trivial), trivial⟩) rfl rfl hl.1 rfl (lv_room (Nat.le_of_ble_eq_true rfl)) dX5_move_42 ⟨Nat.le_of_ble_eq_true rfl, Nat.le_of_ble_eq_true rfl⟩) hP hD hS hA rfl (fun H locs hP hD hS => ?_)
        refine lv_goto (tgt := 49) hx hb dX5_move_45 (by decide) ?_
        have he : mMv b tx ln Rw Cl (t, r, f, 0, iC, iR) = (mRnT tx (t + 1) ln 1, (mIt r f iC iR Rw Cl (mRnV tx (t + 1) ln)).1, (mIt r f iC iR Rw Cl (mRnV tx (t + 1) ln)).2.1, nI ((mIt r f iC iR Rw Cl (mRnV tx (t + 1) ln)).2.2.1), (mIt r f iC iR Rw Cl (mRnV tx (t + 1) ln)).2.2.2.1, (mIt r f iC iR Rw Cl (mRnV tx (t + 1) ln)).2.2.2.2) := by simp [mMv, mvOK, mvT, mvH, c_8, c_28, Int32.not_lt.mpr c_28, hr1, c_37]
        exact ol_iretE hx hb hr hlocks ⟨congrArg (fun z => some (Value.int z)) (by rw [he]), (by rw [he])⟩ hP hD hS dX5_move_49
    · have hr1 := mRnI_1 (by omega) (Int32.not_le.mp c_28)
      refine lv_bipush (v := (-100)) hx hb dX5_move_31 (by decide) ?_
      refine lv_goto (tgt := 49) hx hb dX5_move_33 (by decide) ?_
      have he : mMv b tx ln Rw Cl (t, r, f, 0, iC, iR) = (mRnT tx (t + 1) ln 1, r, f, (-100), iC, iR) := by simp [mMv, mvOK, mvT, mvH, c_8, c_28, Int32.not_le.mp c_28, hr1]
      exact ol_iretE hx hb hr hlocks ⟨congrArg (fun z => some (Value.int z)) (by rw [he]), (by rw [he])⟩ hP hD hS dX5_move_49
