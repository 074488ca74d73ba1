/-! THE REFERENCE: a stroke ends -/
theorem mSh_r (r : Nat → Int32) (k : Int32) : mSh r k = 0 ∨ mSh r k = 1 ∨ mSh r k = -5 := by
  unfold mSh; split
  · exact Or.inl rfl
  · split
    · exact Or.inr (Or.inl rfl)
    · exact Or.inr (Or.inr rfl)
theorem mJd_r (r : Nat → Int32) (f : Nat → UInt32) (k : Nat) : mJd r f k = 0 ∨ mJd r f k = 1 ∨ mJd r f k = 2 ∨ mJd r f k = 3 := by
  unfold mJd
  rcases mSh_r r (nI k) with h | h | h <;> rw [h] <;> (repeat' split) <;> simp_all
theorem mJd_0 (r : Nat → Int32) (f : Nat → UInt32) (k : Nat) : ¬ mJd r f k < 0 := by
  rcases mJd_r r f k with h | h | h | h <;> rw [h] <;> decide
theorem mJd_20 {r : Nat → Int32} {f : Nat → UInt32} {k : Nat} (h : mJd r f k = 3) : ¬ r 16 = 20 := by
  intro h2
  unfold mJd at h
  rcases mSh_r r (nI k) with e | e | e <;> rw [e] at h <;> simp only [h2, if_true] at h <;> (repeat' split at h) <;> simp_all
def mE1 (r : Nat → Int32) (f : Nat → UInt32) (k pl : Nat) : Nat → Int32 :=
  upd (upd (upd (upd r (pl + 0) (nI k)) (pl + 1) (r (68 + k))) (pl + 2) (r 2 - r (68 + k))) (pl + 3) (mJd r f k)
def mE1b (r : Nat → Int32) (f : Nat → UInt32) (k pl : Nat) : Nat → Int32 := upd (mE1 r f k pl) (pl + 4) (mE1 r f k pl (212 + k))
def mE1c (r : Nat → Int32) (f : Nat → UInt32) (k pl : Nat) : Nat → Int32 := upd (mE1b r f k pl) (pl + 5) (mE1b r f k pl (164 + k))
def mE1d (r : Nat → Int32) (f : Nat → UInt32) (k pl : Nat) : Nat → Int32 := upd (mE1c r f k pl) 9 (mE1c r f k pl 9 + 1)
/-- the stroke's parts among the disputes -/
def mDcp (r : Nat → Int32) (pl d : Nat) : Nat → Nat → Int32
  | 0 => r
  | x + 1 => upd (mDcp r pl d x) (d + x) (mDcp r pl d x (pl + x))
def mE2a (r : Nat → Int32) (pl d : Nat) (n : Int32) : Nat → Int32 := upd (upd (mDcp r pl d 6) (d + 3) (-5)) (d + 6) n
def mE2b (r : Nat → Int32) (pl d : Nat) (n : Int32) : Nat → Int32 := upd (mE2a r pl d n) 16 (mE2a r pl d n 16 + 1)
def mPl (r : Nat → Int32) : Nat := 308 + 6 * (cN (r 9) % 16)
def mE2 (r : Nat → Int32) (f : Nat → UInt32) (k : Nat) : Nat → Int32 := if mJd r f k = 3 then mE2b (mE1d r f k (mPl r)) (mPl r) (404 + 7 * cN (r 16)) (r 9) else mE1d r f k (mPl r)
def mE3 (r : Nat → Int32) (f : Nat → UInt32) (k : Nat) : Nat → Int32 := mCnt (mE2 r f k) (mJd r f k) (mE2 r f k (212 + k))
def mE4 (r : Nat → Int32) (f : Nat → UInt32) (k : Nat) : Nat → Int32 := if mJd r f k < 2 ∧ mSh (mE3 r f k) (nI k) < 0 then mLnR (mE3 r f k) (cN (mJd r f k)) (r (68 + k)) else mE3 r f k
def mEndF (r : Nat → Int32) (f : Nat → UInt32) (k : Nat) : Nat → UInt32 := if mJd r f k < 2 ∧ mSh (mE3 r f k) (nI k) < 0 then mLnF (mE3 r f k) f (cN (mJd r f k)) (r (68 + k)) (r 2 - r (68 + k)) else f
def mE5 (r : Nat → Int32) (f : Nat → UInt32) (n k : Nat) : Nat → Int32 := if mJd r f k < 2 then mGs (mE4 r f k) n (cN (mJd r f k)) (nI k) (mE4 r f k (164 + k)) else mE4 r f k
def mEndR (r : Nat → Int32) (f : Nat → UInt32) (n k : Nat) : Nat → Int32 := upd (upd (mE5 r f n k) (68 + k) (-5)) (116 + k) 0
theorem mE1d_lo {r : Nat → Int32} {f : Nat → UInt32} {k pl j : Nat} (h : j < pl) (h9 : j ≠ 9) : mE1d r f k pl j = r j := by
  unfold mE1d mE1c mE1b mE1
  simp only [upd]
  repeat rw [if_neg (by omega)]
theorem mDcp_lo (r : Nat → Int32) {pl d j : Nat} (h : j < d) (n : Nat) : mDcp r pl d n j = r j := by
  induction n with
  | zero => rfl
  | succ n ih => unfold mDcp; rw [pk_un (by omega)]; exact ih
theorem mE2b_lo {r : Nat → Int32} {pl d j : Nat} {n : Int32} (h : j < d) (h16 : j ≠ 16) : mE2b r pl d n j = r j := by
  unfold mE2b mE2a
  rw [pk_un h16, pk_un (by omega), pk_un (by omega), mDcp_lo r h]
theorem mE2_lo {r : Nat → Int32} {f : Nat → UInt32} {k j : Nat} (h : j < 308) (h9 : j ≠ 9) (h16 : j ≠ 16) : mE2 r f k j = r j := by
  unfold mE2
  have hp : j < mPl r := by unfold mPl; omega
  split
  · rw [mE2b_lo (by omega) h16, mE1d_lo hp h9]
  · rw [mE1d_lo hp h9]
theorem mCnt_lo {r : Nat → Int32} {b h : Int32} {j : Nat} (hb : ¬ b < 0) (hj : j < 10 ∨ 15 < j) : mCnt r b h j = r j := by
  unfold mCnt mCnA mCnG
  split
  · rename_i h2
    have := (lt2 hb h2).1
    split <;> (rw [pk_un (by omega), pk_un (by omega)])
  · split
    · split <;> (rw [pk_un (by omega), pk_un (by omega)])
    · rfl
theorem mE3_lo {r : Nat → Int32} {f : Nat → UInt32} {k j : Nat} (h : j < 9 ∨ (16 < j ∧ j < 308)) : mE3 r f k j = r j := by
  unfold mE3
  rw [mCnt_lo (mJd_0 _ _ _) (by omega), mE2_lo (by omega) (by omega) (by omega)]
theorem mE4_lo {r : Nat → Int32} {f : Nat → UInt32} {k j : Nat} (h : j < 3 ∨ (4 < j ∧ j < 9) ∨ (16 < j ∧ j < 308)) : mE4 r f k j = r j := by
  unfold mE4
  split
  · rename_i h2
    have := (lt2 (mJd_0 r f k) h2.1).1
    unfold mLnR
    rw [pk_un (by omega), mE3_lo (by omega)]
  · exact mE3_lo (by omega)
theorem mGs_lo {r : Nat → Int32} {n q j : Nat} {k x : Int32} (h : j < 544) (hj : j ≠ 17 + q) : mGs r n q k x j = r j := by
  unfold mGs
  split
  · rfl
  · split
    · rfl
    · rw [pk_un hj, pk_un (by omega)]
theorem mE5_lo {r : Nat → Int32} {f : Nat → UInt32} {n k j : Nat} (h : j < 3 ∨ (4 < j ∧ j < 9) ∨ (18 < j ∧ j < 308)) : mE5 r f n k j = r j := by
  unfold mE5
  split
  · rename_i h2
    have := (lt2 (mJd_0 r f k) h2).1
    rw [mGs_lo (by omega) (by omega), mE4_lo (by omega)]
  · exact mE4_lo (by omega)
/-- what the end of a stroke leaves as it was -/
theorem mEndR_lo {r : Nat → Int32} {f : Nat → UInt32} {n k j : Nat} (h : j < 3 ∨ (4 < j ∧ j < 9) ∨ (18 < j ∧ j < 308)) (h1 : j ≠ 68 + k) (h2 : j ≠ 116 + k) : mEndR r f n k j = r j := by
  unfold mEndR
  rw [pk_un h2, pk_un h1, mE5_lo h]
theorem mG_of {r r' : Nat → Int32} {Rw Cl : Nat} (h0 : r' 0 = r 0) (h1 : r' 1 = r 1) (h : mG r Rw Cl) : mG r' Rw Cl := ⟨by rw [h0]; exact h.1, by rw [h1]; exact h.2.1, h.2.2⟩
set_option maxHeartbeats 4000000 in
set_option maxRecDepth 100000 in
theorem mm_endStroke (l : Launch) (G : oG) (ad : Nat → Nat) (iS : Int32) (iA : Int32) (iL : Int32) (iT : Int32) (iC : Int32) (iR : Int32) (r : Nat → Int32) (pr : Nat → Int32) (ar : Nat → Int32) (br : Nat → Int32) (f : Nat → UInt32) (pf : Nat → UInt32) (af : Nat → UInt32) (bf : Nat → UInt32) (tx : Nat → Int32) (k : Nat) (Rw Cl : Nat) (hg : mG r Rw Cl) (hk : k < 48) (hm : mFo f) (hrt : fR (f 6)) (hen : ¬ r 9 < 0) (hdn : ¬ r 16 < 0) (hd20 : cN (r 16) ≤ 20) (hty : mTy r) (sz : Nat) : Met l yX5_endStroke (ws_ yX5_endStroke cX5_endStroke 9 none) ({ frames := 3, cells := 0, slots := 0, locals := 78 }) (oPc G [.ref (ad 0), .int (nI k)] (oPE G (mW G ad iS iA iL iT iC iR r pr ar br f pf af bf tx) sz (fun _ => True))) (oE G (fun v_ W_ => v_ = none ∧ W_ = mW G ad iS iA iL iT iC iR (mEndR r f (Rw * Cl) k) pr ar br (mEndF r f k) pf af bf tx) (mW G ad iS iA iL iT iC iR r pr ar br f pf af bf tx) sz) 0 0 (va_A (mW G ad iS iA iL iT iC iR r pr ar br f pf af bf tx) sz) := by
  refine Met.ofW (cc := cX5_endStroke) (maxL := 9) (ret := none) (by decide) rfl ?_
  intro p e s m args below meth c s₁ B hml hv
  obtain ⟨rfl, ⟨hsz, hP, hD0, hX⟩, hE⟩ := hv
  have hx := B.exec
  have hb := B.bytes
  have hr := B.returns
  have hts := atoms_spec (ws := ws_ yX5_endStroke cX5_endStroke 9 none) B.pre
  have hts : ∀ w ∈ lw_all, w.before _ s = true := fun w h => hts w (List.mem_cons_of_mem _ h)
  have hown : s.vm.findClass RX5 = some m.cls := findClass_of_methodNamed B.named
  have hlocks := B.notSynchronized
  subst hsz
  have hD := hD0.self (sz := s.heap.size)
  have hA : ∀ q : Nat, s.heap.size ≤ q → va_A (mW G ad iS iA iL iT iC iR r pr ar br f pf af bf tx) s.heap.size q := fun q h => Or.inr h
  have hl := lv_entry ([.ref (ad 0), .int (nI k)]) (n := 9) (Nat.le_of_ble_eq_true rfl)
  rw [lg_entry_eq]
  generalize (lg_sl ([.ref (ad 0), .int (nI k)]) ++ List.replicate (9 - (lg_sl ([.ref (ad 0), .int (nI k)])).length) Slot.unset).toArray = ls at hl ⊢
  replace hl : lv_has ls 9 [(0, .ref (ad 0)), (1, .int (nI k))] := hl
  refine ol_start (A := va_A (mW G ad iS iA iL iT iC iR r pr ar br f pf af bf tx) s.heap.size) (fun H locs hH hS => ?_)
  rw [← hH] at hP
  clear hH
  have hgn := mG_n hg
  have hg' := hg
  obtain ⟨hg0, hg1, hg2, hg3, hg4, hg5⟩ := hg'
  have hj0 := mJd_0 r f k
  obtain ⟨hn1, hn2⟩ := nn_of hen
  obtain ⟨hd1, hd2⟩ := nn_of hdn
  have hpl1 : 308 ≤ mPl r := by unfold mPl; omega
  have hpl2 : mPl r ≤ 398 := by unfold mPl; omega
  refine lv_aload_n hx hb dX5_endStroke_0 rfl (lv_at hl 0 rfl) ?_
  refine lv_iload_n hx hb dX5_endStroke_1 rfl (lv_at hl 1 rfl) ?_
  refine ol_cR (st1 := [.int (mJd r f k)]) (va_runV (As := [.int (nI k)]) (rest := []) ⟨hx, hb, hml, hown, hts⟩ (mr_judged l G ad iS iA iL iT iC iR r pr ar br f pf af bf tx k (by omega) hm) (cwV 1 hts (lw_V q1304 q1306 qs38 q73 q1307) rfl rfl rfl (by decide +kernel) ⟨Nat.le_of_ble_eq_true rfl, Nat.le_of_ble_eq_true rfl⟩) (oPc.preV hE (hE.recv (ci := 12) (hP 0 _ rfl) rfl) hP) rfl rfl hl.1 rfl (lv_room (Nat.le_of_ble_eq_true rfl)) dX5_endStroke_2 ⟨Nat.le_of_ble_eq_true rfl, Nat.le_of_ble_eq_true rfl⟩) rfl ?_
  refine lv_istore_n (lv' := [(2, .int (mJd r f k)), (0, .ref (ad 0)), (1, .int (nI k))]) hx hb dX5_endStroke_5 rfl hl (by decide) rfl (fun ls hl => ?_)
  refine lv_aload_n hx hb dX5_endStroke_6 rfl (lv_at hl 1 rfl) ?_
  refine va_get (D := G.1) (ci := 12) (v := .ref (ad 1)) (C := RX5) (T := TX5) (N := 15) hx hb hts in_X5 hown hE.1 hP 0 rfl rfl 0 (by decide) (hts _ q1135) (fun _ h9 => h9) rfl dX5_endStroke_7 ?_
  refine lv_bipush (v := 68) hx hb dX5_endStroke_10 (by decide) ?_
  refine lv_iload_n hx hb dX5_endStroke_12 rfl (lv_at hl 2 rfl) ?_
  refine ol_iadd hx hb 68 k dX5_endStroke_13 ?_
  refine ol_iald hx hb hE.1 hP 1 0 rfl rfl (68 + k) (by omega) (by decide) dX5_endStroke_14 ?_
  refine lv_istore_n (lv' := [(3, .int (r (68 + k))), (2, .int (mJd r f k)), (0, .ref (ad 0)), (1, .int (nI k))]) hx hb dX5_endStroke_15 rfl hl (by decide) rfl (fun ls hl => ?_)
  refine lv_aload_n hx hb dX5_endStroke_16 rfl (lv_at hl 2 rfl) ?_
  refine va_get (D := G.1) (ci := 12) (v := .ref (ad 1)) (C := RX5) (T := TX5) (N := 15) hx hb hts in_X5 hown hE.1 hP 0 rfl rfl 0 (by decide) (hts _ q1135) (fun _ h9 => h9) rfl dX5_endStroke_17 ?_
  refine lv_iconst (v := 2) hx hb dX5_endStroke_20 (by decide) ?_
  refine ol_iald hx hb hE.1 hP 1 0 rfl rfl 2 (by decide) (by decide) dX5_endStroke_21 ?_
  refine lv_iload_n hx hb dX5_endStroke_22 rfl (lv_at hl 0 rfl) ?_
  refine lv_isub hx hb dX5_endStroke_23 ?_
  refine lv_istore (lv' := [(4, .int ((r 2) - (r (68 + k)))), (3, .int (r (68 + k))), (2, .int (mJd r f k)), (0, .ref (ad 0)), (1, .int (nI k))]) hx hb dX5_endStroke_24 hl (by decide) rfl (fun ls hl => ?_)
  refine lv_aload_n hx hb dX5_endStroke_26 rfl (lv_at hl 3 rfl) ?_
  refine va_get (D := G.1) (ci := 12) (v := .ref (ad 1)) (C := RX5) (T := TX5) (N := 15) hx hb hts in_X5 hown hE.1 hP 0 rfl rfl 0 (by decide) (hts _ q1135) (fun _ h9 => h9) rfl dX5_endStroke_27 ?_
  refine lv_bipush (v := 9) hx hb dX5_endStroke_30 (by decide) ?_
  refine ol_iald hx hb hE.1 hP 1 0 rfl rfl 9 (by decide) (by decide) dX5_endStroke_32 ?_
  refine lv_istore (lv' := [(5, .int (r 9)), (4, .int ((r 2) - (r (68 + k)))), (3, .int (r (68 + k))), (2, .int (mJd r f k)), (0, .ref (ad 0)), (1, .int (nI k))]) hx hb dX5_endStroke_33 hl (by decide) rfl (fun ls hl => ?_)
  refine lv_sipush (v := 308) hx hb dX5_endStroke_35 (by decide) ?_
  refine lv_bipush (v := 6) hx hb dX5_endStroke_38 (by decide) ?_
  refine lv_iload hx hb dX5_endStroke_40 (lv_at hl 0 rfl) ?_
  refine ol_top (y := nI (cN (r 9))) hn1 ?_
  refine lv_bipush (v := 16) hx hb dX5_endStroke_42 (by decide) ?_
  refine ol_irem hx hb (cN (r 9)) 16 (by omega) (by omega) (by omega) dX5_endStroke_44 ?_
  refine ol_imul hx hb 6 ((cN (r 9)) % 16) dX5_endStroke_45 ?_
  refine ol_iadd hx hb 308 (6 * ((cN (r 9)) % 16)) dX5_endStroke_46 ?_
  refine ol_top (y := nI (mPl r)) rfl ?_
  refine lv_istore (lv' := [(6, .int (nI (mPl r))), (5, .int (r 9)), (4, .int ((r 2) - (r (68 + k)))), (3, .int (r (68 + k))), (2, .int (mJd r f k)), (0, .ref (ad 0)), (1, .int (nI k))]) hx hb dX5_endStroke_47 hl (by decide) rfl (fun ls hl => ?_)
  refine lv_aload_n hx hb dX5_endStroke_49 rfl (lv_at hl 5 rfl) ?_
  refine va_get (D := G.1) (ci := 12) (v := .ref (ad 1)) (C := RX5) (T := TX5) (N := 15) hx hb hts in_X5 hown hE.1 hP 0 rfl rfl 0 (by decide) (hts _ q1135) (fun _ h9 => h9) rfl dX5_endStroke_50 ?_
  refine lv_iload hx hb dX5_endStroke_53 (lv_at hl 0 rfl) ?_
  refine lv_iconst (v := 0) hx hb dX5_endStroke_55 (by decide) ?_
  refine ol_iadd hx hb (mPl r) 0 dX5_endStroke_56 ?_
  refine lv_iload_n hx hb dX5_endStroke_57 rfl (lv_at hl 6 rfl) ?_
  refine ol_iast hx hb hE.1 hP hD hS 1 0 rfl rfl (mPl r + 0) (by omega) (by decide) dX5_endStroke_58 (fun H locs hP hD hS => ?_)
  replace hP : va_P G.1 cl0 (mW G ad iS iA iL iT iC iR (upd r (mPl r + 0) (nI k)) pr ar br f pf af bf tx) H := hP
  replace hD : va_D (va_A (mW G ad iS iA iL iT iC iR r pr ar br f pf af bf tx) s.heap.size) (mW G ad iS iA iL iT iC iR (upd r (mPl r + 0) (nI k)) pr ar br f pf af bf tx) := hD
  refine lv_aload_n hx hb dX5_endStroke_59 rfl (lv_at hl 5 rfl) ?_
  refine va_get (D := G.1) (ci := 12) (v := .ref (ad 1)) (C := RX5) (T := TX5) (N := 15) hx hb hts in_X5 hown hE.1 hP 0 rfl rfl 0 (by decide) (hts _ q1135) (fun _ h9 => h9) rfl dX5_endStroke_60 ?_
  refine lv_iload hx hb dX5_endStroke_63 (lv_at hl 0 rfl) ?_
  refine lv_iconst (v := 1) hx hb dX5_endStroke_65 (by decide) ?_
  refine ol_iadd hx hb (mPl r) 1 dX5_endStroke_66 ?_
  refine lv_iload_n hx hb dX5_endStroke_67 rfl (lv_at hl 3 rfl) ?_
  refine ol_iast hx hb hE.1 hP hD hS 1 0 rfl rfl (mPl r + 1) (by omega) (by decide) dX5_endStroke_68 (fun H locs hP hD hS => ?_)
  replace hP : va_P G.1 cl0 (mW G ad iS iA iL iT iC iR (upd (upd r (mPl r + 0) (nI k)) (mPl r + 1) (r (68 + k))) pr ar br f pf af bf tx) H := hP
  replace hD : va_D (va_A (mW G ad iS iA iL iT iC iR r pr ar br f pf af bf tx) s.heap.size) (mW G ad iS iA iL iT iC iR (upd (upd r (mPl r + 0) (nI k)) (mPl r + 1) (r (68 + k))) pr ar br f pf af bf tx) := hD
  refine lv_aload_n hx hb dX5_endStroke_69 rfl (lv_at hl 5 rfl) ?_
  refine va_get (D := G.1) (ci := 12) (v := .ref (ad 1)) (C := RX5) (T := TX5) (N := 15) hx hb hts in_X5 hown hE.1 hP 0 rfl rfl 0 (by decide) (hts _ q1135) (fun _ h9 => h9) rfl dX5_endStroke_70 ?_
  refine lv_iload hx hb dX5_endStroke_73 (lv_at hl 0 rfl) ?_
  refine lv_iconst (v := 2) hx hb dX5_endStroke_75 (by decide) ?_
  refine ol_iadd hx hb (mPl r) 2 dX5_endStroke_76 ?_
  refine lv_iload hx hb dX5_endStroke_77 (lv_at hl 2 rfl) ?_
  refine ol_iast hx hb hE.1 hP hD hS 1 0 rfl rfl (mPl r + 2) (by omega) (by decide) dX5_endStroke_79 (fun H locs hP hD hS => ?_)
  replace hP : va_P G.1 cl0 (mW G ad iS iA iL iT iC iR (upd (upd (upd r (mPl r + 0) (nI k)) (mPl r + 1) (r (68 + k))) (mPl r + 2) ((r 2) - (r (68 + k)))) pr ar br f pf af bf tx) H := hP
  replace hD : va_D (va_A (mW G ad iS iA iL iT iC iR r pr ar br f pf af bf tx) s.heap.size) (mW G ad iS iA iL iT iC iR (upd (upd (upd r (mPl r + 0) (nI k)) (mPl r + 1) (r (68 + k))) (mPl r + 2) ((r 2) - (r (68 + k)))) pr ar br f pf af bf tx) := hD
  refine lv_aload_n hx hb dX5_endStroke_80 rfl (lv_at hl 5 rfl) ?_
  refine va_get (D := G.1) (ci := 12) (v := .ref (ad 1)) (C := RX5) (T := TX5) (N := 15) hx hb hts in_X5 hown hE.1 hP 0 rfl rfl 0 (by decide) (hts _ q1135) (fun _ h9 => h9) rfl dX5_endStroke_81 ?_
  refine lv_iload hx hb dX5_endStroke_84 (lv_at hl 0 rfl) ?_
  refine lv_iconst (v := 3) hx hb dX5_endStroke_86 (by decide) ?_
  refine ol_iadd hx hb (mPl r) 3 dX5_endStroke_87 ?_
  refine lv_iload_n hx hb dX5_endStroke_88 rfl (lv_at hl 4 rfl) ?_
  refine ol_iast hx hb hE.1 hP hD hS 1 0 rfl rfl (mPl r + 3) (by omega) (by decide) dX5_endStroke_89 (fun H locs hP hD hS => ?_)
  replace hP : va_P G.1 cl0 (mW G ad iS iA iL iT iC iR (upd (upd (upd (upd r (mPl r + 0) (nI k)) (mPl r + 1) (r (68 + k))) (mPl r + 2) ((r 2) - (r (68 + k)))) (mPl r + 3) (mJd r f k)) pr ar br f pf af bf tx) H := hP
  replace hD : va_D (va_A (mW G ad iS iA iL iT iC iR r pr ar br f pf af bf tx) s.heap.size) (mW G ad iS iA iL iT iC iR (upd (upd (upd (upd r (mPl r + 0) (nI k)) (mPl r + 1) (r (68 + k))) (mPl r + 2) ((r 2) - (r (68 + k)))) (mPl r + 3) (mJd r f k)) pr ar br f pf af bf tx) := hD
  replace hP : va_P G.1 cl0 (mW G ad iS iA iL iT iC iR (mE1 r f k (mPl r)) pr ar br f pf af bf tx) H := hP
  replace hD : va_D (va_A (mW G ad iS iA iL iT iC iR r pr ar br f pf af bf tx) s.heap.size) (mW G ad iS iA iL iT iC iR (mE1 r f k (mPl r)) pr ar br f pf af bf tx) := mD_any hD
  refine lv_aload_n hx hb dX5_endStroke_90 rfl (lv_at hl 5 rfl) ?_
  refine va_get (D := G.1) (ci := 12) (v := .ref (ad 1)) (C := RX5) (T := TX5) (N := 15) hx hb hts in_X5 hown hE.1 hP 0 rfl rfl 0 (by decide) (hts _ q1135) (fun _ h9 => h9) rfl dX5_endStroke_91 ?_
  refine lv_iload hx hb dX5_endStroke_94 (lv_at hl 0 rfl) ?_
  refine lv_iconst (v := 4) hx hb dX5_endStroke_96 (by decide) ?_
  refine ol_iadd hx hb (mPl r) 4 dX5_endStroke_97 ?_
  refine lv_aload_n hx hb dX5_endStroke_98 rfl (lv_at hl 5 rfl) ?_
  refine va_get (D := G.1) (ci := 12) (v := .ref (ad 1)) (C := RX5) (T := TX5) (N := 15) hx hb hts in_X5 hown hE.1 hP 0 rfl rfl 0 (by decide) (hts _ q1135) (fun _ h9 => h9) rfl dX5_endStroke_99 ?_
  refine lv_sipush (v := 212) hx hb dX5_endStroke_102 (by decide) ?_
  refine lv_iload_n hx hb dX5_endStroke_105 rfl (lv_at hl 6 rfl) ?_
  refine ol_iadd hx hb 212 k dX5_endStroke_106 ?_
  refine ol_iald hx hb hE.1 hP 1 0 rfl rfl (212 + k) (by omega) (by decide) dX5_endStroke_107 ?_
  refine ol_iast hx hb hE.1 hP hD hS 1 0 rfl rfl (mPl r + 4) (by omega) (by decide) dX5_endStroke_108 (fun H locs hP hD hS => ?_)
  replace hP : va_P G.1 cl0 (mW G ad iS iA iL iT iC iR (upd (mE1 r f k (mPl r)) (mPl r + 4) ((mE1 r f k (mPl r)) (212 + k))) pr ar br f pf af bf tx) H := hP
  replace hD : va_D (va_A (mW G ad iS iA iL iT iC iR r pr ar br f pf af bf tx) s.heap.size) (mW G ad iS iA iL iT iC iR (upd (mE1 r f k (mPl r)) (mPl r + 4) ((mE1 r f k (mPl r)) (212 + k))) pr ar br f pf af bf tx) := hD
  replace hP : va_P G.1 cl0 (mW G ad iS iA iL iT iC iR (mE1b r f k (mPl r)) pr ar br f pf af bf tx) H := hP
  replace hD : va_D (va_A (mW G ad iS iA iL iT iC iR r pr ar br f pf af bf tx) s.heap.size) (mW G ad iS iA iL iT iC iR (mE1b r f k (mPl r)) pr ar br f pf af bf tx) := mD_any hD
  refine lv_aload_n hx hb dX5_endStroke_109 rfl (lv_at hl 5 rfl) ?_
  refine va_get (D := G.1) (ci := 12) (v := .ref (ad 1)) (C := RX5) (T := TX5) (N := 15) hx hb hts in_X5 hown hE.1 hP 0 rfl rfl 0 (by decide) (hts _ q1135) (fun _ h9 => h9) rfl dX5_endStroke_110 ?_
  refine lv_iload hx hb dX5_endStroke_113 (lv_at hl 0 rfl) ?_
  refine lv_iconst (v := 5) hx hb dX5_endStroke_115 (by decide) ?_
  refine ol_iadd hx hb (mPl r) 5 dX5_endStroke_116 ?_
  refine lv_aload_n hx hb dX5_endStroke_117 rfl (lv_at hl 5 rfl) ?_
  refine va_get (D := G.1) (ci := 12) (v := .ref (ad 1)) (C := RX5) (T := TX5) (N := 15) hx hb hts in_X5 hown hE.1 hP 0 rfl rfl 0 (by decide) (hts _ q1135) (fun _ h9 => h9) rfl dX5_endStroke_118 ?_
  refine lv_sipush (v := 164) hx hb dX5_endStroke_121 (by decide) ?_
  refine lv_iload_n hx hb dX5_endStroke_124 rfl (lv_at hl 6 rfl) ?_
  refine ol_iadd hx hb 164 k dX5_endStroke_125 ?_
  refine ol_iald hx hb hE.1 hP 1 0 rfl rfl (164 + k) (by omega) (by decide) dX5_endStroke_126 ?_
  refine ol_iast hx hb hE.1 hP hD hS 1 0 rfl rfl (mPl r + 5) (by omega) (by decide) dX5_endStroke_127 (fun H locs hP hD hS => ?_)
  replace hP : va_P G.1 cl0 (mW G ad iS iA iL iT iC iR (upd (mE1b r f k (mPl r)) (mPl r + 5) ((mE1b r f k (mPl r)) (164 + k))) pr ar br f pf af bf tx) H := hP
  replace hD : va_D (va_A (mW G ad iS iA iL iT iC iR r pr ar br f pf af bf tx) s.heap.size) (mW G ad iS iA iL iT iC iR (upd (mE1b r f k (mPl r)) (mPl r + 5) ((mE1b r f k (mPl r)) (164 + k))) pr ar br f pf af bf tx) := hD
  replace hP : va_P G.1 cl0 (mW G ad iS iA iL iT iC iR (mE1c r f k (mPl r)) pr ar br f pf af bf tx) H := hP
  replace hD : va_D (va_A (mW G ad iS iA iL iT iC iR r pr ar br f pf af bf tx) s.heap.size) (mW G ad iS iA iL iT iC iR (mE1c r f k (mPl r)) pr ar br f pf af bf tx) := mD_any hD
  refine lv_aload_n hx hb dX5_endStroke_128 rfl (lv_at hl 5 rfl) ?_
  refine va_get (D := G.1) (ci := 12) (v := .ref (ad 1)) (C := RX5) (T := TX5) (N := 15) hx hb hts in_X5 hown hE.1 hP 0 rfl rfl 0 (by decide) (hts _ q1135) (fun _ h9 => h9) rfl dX5_endStroke_129 ?_
  refine lv_bipush (v := 9) hx hb dX5_endStroke_132 (by decide) ?_
  refine lv_dup2_11 hx hb dX5_endStroke_134 rfl rfl ?_
  refine ol_iald hx hb hE.1 hP 1 0 rfl rfl 9 (by decide) (by decide) dX5_endStroke_135 ?_
  refine lv_iconst (v := 1) hx hb dX5_endStroke_136 (by decide) ?_
  refine lv_iadd hx hb dX5_endStroke_137 ?_
  refine ol_iast hx hb hE.1 hP hD hS 1 0 rfl rfl 9 (by decide) (by decide) dX5_endStroke_138 (fun H locs hP hD hS => ?_)
  replace hP : va_P G.1 cl0 (mW G ad iS iA iL iT iC iR (upd (mE1c r f k (mPl r)) 9 (((mE1c r f k (mPl r)) 9) + 1)) pr ar br f pf af bf tx) H := hP
  replace hD : va_D (va_A (mW G ad iS iA iL iT iC iR r pr ar br f pf af bf tx) s.heap.size) (mW G ad iS iA iL iT iC iR (upd (mE1c r f k (mPl r)) 9 (((mE1c r f k (mPl r)) 9) + 1)) pr ar br f pf af bf tx) := hD
  replace hP : va_P G.1 cl0 (mW G ad iS iA iL iT iC iR (mE1d r f k (mPl r)) pr ar br f pf af bf tx) H := hP
  replace hD : va_D (va_A (mW G ad iS iA iL iT iC iR r pr ar br f pf af bf tx) s.heap.size) (mW G ad iS iA iL iT iC iR (mE1d r f k (mPl r)) pr ar br f pf af bf tx) := mD_any hD
  refine lv_iload_n hx hb dX5_endStroke_139 rfl (lv_at hl 4 rfl) ?_
  refine lv_iconst (v := 3) hx hb dX5_endStroke_140 (by decide) ?_
  refine lv_icmp_ne (tgt := 230) hx hb dX5_endStroke_141 (by decide) (fun c_141 => ?_) (fun c_141 => ?_)
  · replace hP : va_P G.1 cl0 (mW G ad iS iA iL iT iC iR (mE2 r f k) pr ar br f pf af bf tx) H := by rw [show mE2 r f k = mE1d r f k (mPl r) from by unfold mE2; rw [if_neg c_141]]; exact hP
    replace hD : va_D (va_A (mW G ad iS iA iL iT iC iR r pr ar br f pf af bf tx) s.heap.size) (mW G ad iS iA iL iT iC iR (mE2 r f k) pr ar br f pf af bf tx) := mD_any hD
    refine lv_aload_n hx hb dX5_endStroke_230 rfl (lv_at hl 5 rfl) ?_
    refine lv_iload_n hx hb dX5_endStroke_231 rfl (lv_at hl 4 rfl) ?_
    refine lv_aload_n hx hb dX5_endStroke_232 rfl (lv_at hl 5 rfl) ?_
    refine va_get (D := G.1) (ci := 12) (v := .ref (ad 1)) (C := RX5) (T := TX5) (N := 15) hx hb hts in_X5 hown hE.1 hP 0 rfl rfl 0 (by decide) (hts _ q1135) (fun _ h9 => h9) rfl dX5_endStroke_233 ?_
    refine lv_sipush (v := 212) hx hb dX5_endStroke_236 (by decide) ?_
    refine lv_iload_n hx hb dX5_endStroke_239 rfl (lv_at hl 6 rfl) ?_
    refine ol_iadd hx hb 212 k dX5_endStroke_240 ?_
    refine ol_iald hx hb hE.1 hP 1 0 rfl rfl (212 + k) (by omega) (by decide) dX5_endStroke_241 ?_
    refine ol_cM (st1 := []) (va_runV (As := [.int (mJd r f k), .int ((mE2 r f k) (212 + k))]) (rest := []) ⟨hx, hb, hml, hown, hts⟩ (mm_countIt l G ad iS iA iL iT iC iR (mE2 r f k) pr ar br f pf af bf tx (mJd r f k) ((mE2 r f k) (212 + k)) hj0 H.size) (cwV 2 hts (lw_V q1319 q1321 qs41 q73 q1322) rfl rfl rfl (by decide +kernel) ⟨Nat.le_of_ble_eq_true rfl, Nat.le_of_ble_eq_true rfl⟩) (oPc.preV hE (hE.recv (ci := 12) (hP 0 _ rfl) rfl) ⟨rfl, hP, oD_weak hD (fun _ _ => trivial), trivial⟩) rfl rfl hl.1 rfl (lv_room (Nat.le_of_ble_eq_true rfl)) dX5_endStroke_242 ⟨Nat.le_of_ble_eq_true rfl, Nat.le_of_ble_eq_true rfl⟩) hP hD hS hA rfl (fun H locs hP hD hS => ?_)
    replace hP : va_P G.1 cl0 (mW G ad iS iA iL iT iC iR (mE3 r f k) pr ar br f pf af bf tx) H := hP
    replace hD : va_D (va_A (mW G ad iS iA iL iT iC iR r pr ar br f pf af bf tx) s.heap.size) (mW G ad iS iA iL iT iC iR (mE3 r f k) pr ar br f pf af bf tx) := mD_any hD
    refine lv_iload_n hx hb dX5_endStroke_245 rfl (lv_at hl 4 rfl) ?_
    refine lv_iconst (v := 2) hx hb dX5_endStroke_246 (by decide) ?_
    refine lv_icmp_ge (tgt := 282) hx hb dX5_endStroke_247 (by decide) (fun c_247 => ?_) (fun c_247 => ?_)
    · have hnb : ¬ mJd r f k < 2 := Int32.not_lt.mpr c_247
      replace hP : va_P G.1 cl0 (mW G ad iS iA iL iT iC iR (mE4 r f k) pr ar br f pf af bf tx) H := by rw [show mE4 r f k = mE3 r f k from by unfold mE4; rw [if_neg (fun q => hnb q.1)]]; exact hP
      replace hD : va_D (va_A (mW G ad iS iA iL iT iC iR r pr ar br f pf af bf tx) s.heap.size) (mW G ad iS iA iL iT iC iR (mE4 r f k) pr ar br f pf af bf tx) := mD_any hD
      replace hP : va_P G.1 cl0 (mW G ad iS iA iL iT iC iR (mE4 r f k) pr ar br (mEndF r f k) pf af bf tx) H := by rw [show mEndF r f k = f from by unfold mEndF; rw [if_neg (fun q => hnb q.1)]]; exact hP
      replace hD : va_D (va_A (mW G ad iS iA iL iT iC iR r pr ar br f pf af bf tx) s.heap.size) (mW G ad iS iA iL iT iC iR (mE4 r f k) pr ar br (mEndF r f k) pf af bf tx) := mD_any hD
      replace hP : va_P G.1 cl0 (mW G ad iS iA iL iT iC iR (mE5 r f (Rw * Cl) k) pr ar br (mEndF r f k) pf af bf tx) H := by rw [show mE5 r f (Rw * Cl) k = mE4 r f k from by unfold mE5; rw [if_neg hnb]]; exact hP
      replace hD : va_D (va_A (mW G ad iS iA iL iT iC iR r pr ar br f pf af bf tx) s.heap.size) (mW G ad iS iA iL iT iC iR (mE5 r f (Rw * Cl) k) pr ar br (mEndF r f k) pf af bf tx) := mD_any hD
      refine lv_aload_n hx hb dX5_endStroke_282 rfl (lv_at hl 5 rfl) ?_
      refine va_get (D := G.1) (ci := 12) (v := .ref (ad 1)) (C := RX5) (T := TX5) (N := 15) hx hb hts in_X5 hown hE.1 hP 0 rfl rfl 0 (by decide) (hts _ q1135) (fun _ h9 => h9) rfl dX5_endStroke_283 ?_
      refine lv_bipush (v := 68) hx hb dX5_endStroke_286 (by decide) ?_
      refine lv_iload_n hx hb dX5_endStroke_288 rfl (lv_at hl 6 rfl) ?_
      refine ol_iadd hx hb 68 k dX5_endStroke_289 ?_
      refine lv_bipush (v := (-5)) hx hb dX5_endStroke_290 (by decide) ?_
      refine ol_iast hx hb hE.1 hP hD hS 1 0 rfl rfl (68 + k) (by omega) (by decide) dX5_endStroke_292 (fun H locs hP hD hS => ?_)
      replace hP : va_P G.1 cl0 (mW G ad iS iA iL iT iC iR (upd (mE5 r f (Rw * Cl) k) (68 + k) (-5)) pr ar br (mEndF r f k) pf af bf tx) H := hP
      replace hD : va_D (va_A (mW G ad iS iA iL iT iC iR r pr ar br f pf af bf tx) s.heap.size) (mW G ad iS iA iL iT iC iR (upd (mE5 r f (Rw * Cl) k) (68 + k) (-5)) pr ar br (mEndF r f k) pf af bf tx) := hD
      refine lv_aload_n hx hb dX5_endStroke_293 rfl (lv_at hl 5 rfl) ?_
      refine va_get (D := G.1) (ci := 12) (v := .ref (ad 1)) (C := RX5) (T := TX5) (N := 15) hx hb hts in_X5 hown hE.1 hP 0 rfl rfl 0 (by decide) (hts _ q1135) (fun _ h9 => h9) rfl dX5_endStroke_294 ?_
      refine lv_bipush (v := 116) hx hb dX5_endStroke_297 (by decide) ?_
      refine lv_iload_n hx hb dX5_endStroke_299 rfl (lv_at hl 6 rfl) ?_
      refine ol_iadd hx hb 116 k dX5_endStroke_300 ?_
      refine lv_iconst (v := 0) hx hb dX5_endStroke_301 (by decide) ?_
      refine ol_iast hx hb hE.1 hP hD hS 1 0 rfl rfl (116 + k) (by omega) (by decide) dX5_endStroke_302 (fun H locs hP hD hS => ?_)
      replace hP : va_P G.1 cl0 (mW G ad iS iA iL iT iC iR (upd (upd (mE5 r f (Rw * Cl) k) (68 + k) (-5)) (116 + k) 0) pr ar br (mEndF r f k) pf af bf tx) H := hP
      replace hD : va_D (va_A (mW G ad iS iA iL iT iC iR r pr ar br f pf af bf tx) s.heap.size) (mW G ad iS iA iL iT iC iR (upd (upd (mE5 r f (Rw * Cl) k) (68 + k) (-5)) (116 + k) 0) pr ar br (mEndF r f k) pf af bf tx) := hD
      exact ol_vretE hx hb hr hlocks ⟨rfl, rfl⟩ hP hD hS dX5_endStroke_303
    · have hbb := Int32.not_le.mp c_247
      obtain ⟨hjb2, hjb1⟩ := lt2 hj0 hbb
      refine lv_aload_n hx hb dX5_endStroke_250 rfl (lv_at hl 5 rfl) ?_
      refine lv_iload_n hx hb dX5_endStroke_251 rfl (lv_at hl 6 rfl) ?_
      refine ol_cR (st1 := [.int (mSh (mE3 r f k) (nI k))]) (va_runV (As := [.int (nI k)]) (rest := []) ⟨hx, hb, hml, hown, hts⟩ (mr_shiftOf l G ad iS iA iL iT iC iR (mE3 r f k) pr ar br f pf af bf tx (nI k) ) (cwV 1 hts (lw_V q1233 q1235 qs29 q73 q1236) rfl rfl rfl (by decide +kernel) ⟨Nat.le_of_ble_eq_true rfl, Nat.le_of_ble_eq_true rfl⟩) (oPc.preV hE (hE.recv (ci := 12) (hP 0 _ rfl) rfl) hP) rfl rfl hl.1 rfl (lv_room (Nat.le_of_ble_eq_true rfl)) dX5_endStroke_252 ⟨Nat.le_of_ble_eq_true rfl, Nat.le_of_ble_eq_true rfl⟩) rfl ?_
      refine lv_if_ge (tgt := 266) hx hb dX5_endStroke_255 (by decide) (fun c_255 => ?_) (fun c_255 => ?_)
      · replace hP : va_P G.1 cl0 (mW G ad iS iA iL iT iC iR (mE4 r f k) pr ar br f pf af bf tx) H := by rw [show mE4 r f k = mE3 r f k from by unfold mE4; rw [if_neg (fun q => Int32.not_lt.mpr c_255 q.2)]]; exact hP
        replace hD : va_D (va_A (mW G ad iS iA iL iT iC iR r pr ar br f pf af bf tx) s.heap.size) (mW G ad iS iA iL iT iC iR (mE4 r f k) pr ar br f pf af bf tx) := mD_any hD
        replace hP : va_P G.1 cl0 (mW G ad iS iA iL iT iC iR (mE4 r f k) pr ar br (mEndF r f k) pf af bf tx) H := by rw [show mEndF r f k = f from by unfold mEndF; rw [if_neg (fun q => Int32.not_lt.mpr c_255 q.2)]]; exact hP
        replace hD : va_D (va_A (mW G ad iS iA iL iT iC iR r pr ar br f pf af bf tx) s.heap.size) (mW G ad iS iA iL iT iC iR (mE4 r f k) pr ar br (mEndF r f k) pf af bf tx) := mD_any hD
        refine lv_aload_n hx hb dX5_endStroke_266 rfl (lv_at hl 5 rfl) ?_
        refine lv_iload_n hx hb dX5_endStroke_267 rfl (lv_at hl 4 rfl) ?_
        refine ol_top (y := nI (cN (mJd r f k))) hjb1 ?_
        refine lv_iload_n hx hb dX5_endStroke_268 rfl (lv_at hl 6 rfl) ?_
        refine lv_aload_n hx hb dX5_endStroke_269 rfl (lv_at hl 5 rfl) ?_
        refine va_get (D := G.1) (ci := 12) (v := .ref (ad 1)) (C := RX5) (T := TX5) (N := 15) hx hb hts in_X5 hown hE.1 hP 0 rfl rfl 0 (by decide) (hts _ q1135) (fun _ h9 => h9) rfl dX5_endStroke_270 ?_
        refine lv_sipush (v := 164) hx hb dX5_endStroke_273 (by decide) ?_
        refine lv_iload_n hx hb dX5_endStroke_276 rfl (lv_at hl 6 rfl) ?_
        refine ol_iadd hx hb 164 k dX5_endStroke_277 ?_
        refine ol_iald hx hb hE.1 hP 1 0 rfl rfl (164 + k) (by omega) (by decide) dX5_endStroke_278 ?_
        refine ol_cM (st1 := []) (va_runV (As := [.int (nI (cN (mJd r f k))), .int (nI k), .int ((mE4 r f k) (164 + k))]) (rest := []) ⟨hx, hb, hml, hown, hts⟩ (mm_giveSign l G ad iS iA iL iT iC iR (mE4 r f k) pr ar br (mEndF r f k) pf af bf tx (cN (mJd r f k)) (nI k) ((mE4 r f k) (164 + k)) Rw Cl (by omega) (mG_of (mE4_lo (by omega)) (mE4_lo (by omega)) hg) (fun z hz => by rw [mE4_lo (by omega)]; exact hty z hz) H.size) (cwV 3 hts (lw_V q1331 q1333 qs44 q73 q1334) rfl rfl rfl (by decide +kernel) ⟨Nat.le_of_ble_eq_true rfl, Nat.le_of_ble_eq_true rfl⟩) (oPc.preV hE (hE.recv (ci := 12) (hP 0 _ rfl) rfl) ⟨rfl, hP, oD_weak hD (fun _ _ => trivial), trivial⟩) rfl rfl hl.1 rfl (lv_room (Nat.le_of_ble_eq_true rfl)) dX5_endStroke_279 ⟨Nat.le_of_ble_eq_true rfl, Nat.le_of_ble_eq_true rfl⟩) hP hD hS hA rfl (fun H locs hP hD hS => ?_)
        replace hP : va_P G.1 cl0 (mW G ad iS iA iL iT iC iR (mE5 r f (Rw * Cl) k) pr ar br (mEndF r f k) pf af bf tx) H := by rw [show mE5 r f (Rw * Cl) k = mGs (mE4 r f k) (Rw * Cl) (cN (mJd r f k)) (nI k) ((mE4 r f k) (164 + k)) from by unfold mE5; rw [if_pos hbb]]; exact hP
        replace hD : va_D (va_A (mW G ad iS iA iL iT iC iR r pr ar br f pf af bf tx) s.heap.size) (mW G ad iS iA iL iT iC iR (mE5 r f (Rw * Cl) k) pr ar br (mEndF r f k) pf af bf tx) := mD_any hD
        refine lv_aload_n hx hb dX5_endStroke_282 rfl (lv_at hl 5 rfl) ?_
        refine va_get (D := G.1) (ci := 12) (v := .ref (ad 1)) (C := RX5) (T := TX5) (N := 15) hx hb hts in_X5 hown hE.1 hP 0 rfl rfl 0 (by decide) (hts _ q1135) (fun _ h9 => h9) rfl dX5_endStroke_283 ?_
        refine lv_bipush (v := 68) hx hb dX5_endStroke_286 (by decide) ?_
        refine lv_iload_n hx hb dX5_endStroke_288 rfl (lv_at hl 6 rfl) ?_
        refine ol_iadd hx hb 68 k dX5_endStroke_289 ?_
        refine lv_bipush (v := (-5)) hx hb dX5_endStroke_290 (by decide) ?_
        refine ol_iast hx hb hE.1 hP hD hS 1 0 rfl rfl (68 + k) (by omega) (by decide) dX5_endStroke_292 (fun H locs hP hD hS => ?_)
        replace hP : va_P G.1 cl0 (mW G ad iS iA iL iT iC iR (upd (mE5 r f (Rw * Cl) k) (68 + k) (-5)) pr ar br (mEndF r f k) pf af bf tx) H := hP
        replace hD : va_D (va_A (mW G ad iS iA iL iT iC iR r pr ar br f pf af bf tx) s.heap.size) (mW G ad iS iA iL iT iC iR (upd (mE5 r f (Rw * Cl) k) (68 + k) (-5)) pr ar br (mEndF r f k) pf af bf tx) := hD
        refine lv_aload_n hx hb dX5_endStroke_293 rfl (lv_at hl 5 rfl) ?_
        refine va_get (D := G.1) (ci := 12) (v := .ref (ad 1)) (C := RX5) (T := TX5) (N := 15) hx hb hts in_X5 hown hE.1 hP 0 rfl rfl 0 (by decide) (hts _ q1135) (fun _ h9 => h9) rfl dX5_endStroke_294 ?_
        refine lv_bipush (v := 116) hx hb dX5_endStroke_297 (by decide) ?_
        refine lv_iload_n hx hb dX5_endStroke_299 rfl (lv_at hl 6 rfl) ?_
        refine ol_iadd hx hb 116 k dX5_endStroke_300 ?_
        refine lv_iconst (v := 0) hx hb dX5_endStroke_301 (by decide) ?_
        refine ol_iast hx hb hE.1 hP hD hS 1 0 rfl rfl (116 + k) (by omega) (by decide) dX5_endStroke_302 (fun H locs hP hD hS => ?_)
        replace hP : va_P G.1 cl0 (mW G ad iS iA iL iT iC iR (upd (upd (mE5 r f (Rw * Cl) k) (68 + k) (-5)) (116 + k) 0) pr ar br (mEndF r f k) pf af bf tx) H := hP
        replace hD : va_D (va_A (mW G ad iS iA iL iT iC iR r pr ar br f pf af bf tx) s.heap.size) (mW G ad iS iA iL iT iC iR (upd (upd (mE5 r f (Rw * Cl) k) (68 + k) (-5)) (116 + k) 0) pr ar br (mEndF r f k) pf af bf tx) := hD
        exact ol_vretE hx hb hr hlocks ⟨rfl, rfl⟩ hP hD hS dX5_endStroke_303
      · refine lv_aload_n hx hb dX5_endStroke_258 rfl (lv_at hl 5 rfl) ?_
        refine lv_iload_n hx hb dX5_endStroke_259 rfl (lv_at hl 4 rfl) ?_
        refine ol_top (y := nI (cN (mJd r f k))) hjb1 ?_
        refine lv_iload_n hx hb dX5_endStroke_260 rfl (lv_at hl 3 rfl) ?_
        refine lv_iload hx hb dX5_endStroke_261 (lv_at hl 2 rfl) ?_
        refine ol_cM (st1 := []) (va_runV (As := [.int (nI (cN (mJd r f k))), .int (r (68 + k)), .int ((r 2) - (r (68 + k)))]) (rest := []) ⟨hx, hb, hml, hown, hts⟩ (mm_learn l G ad iS iA iL iT iC iR (mE3 r f k) pr ar br f pf af bf tx (cN (mJd r f k)) (r (68 + k)) ((r 2) - (r (68 + k))) (by omega) hm hrt H.size) (cwV 3 hts (lw_V q1323 q1325 qs42 q73 q1326) rfl rfl rfl (by decide +kernel) ⟨Nat.le_of_ble_eq_true rfl, Nat.le_of_ble_eq_true rfl⟩) (oPc.preV hE (hE.recv (ci := 12) (hP 0 _ rfl) rfl) ⟨rfl, hP, oD_weak hD (fun _ _ => trivial), trivial⟩) rfl rfl hl.1 rfl (lv_room (Nat.le_of_ble_eq_true rfl)) dX5_endStroke_263 ⟨Nat.le_of_ble_eq_true rfl, Nat.le_of_ble_eq_true rfl⟩) hP hD hS hA rfl (fun H locs hP hD hS => ?_)
        replace hP : va_P G.1 cl0 (mW G ad iS iA iL iT iC iR (mE4 r f k) pr ar br (mLnF (mE3 r f k) f (cN (mJd r f k)) (r (68 + k)) ((r 2) - (r (68 + k)))) pf af bf tx) H := by rw [show mE4 r f k = mLnR (mE3 r f k) (cN (mJd r f k)) (r (68 + k)) from by unfold mE4; rw [if_pos ⟨hbb, Int32.not_le.mp c_255⟩]]; exact hP
        replace hD : va_D (va_A (mW G ad iS iA iL iT iC iR r pr ar br f pf af bf tx) s.heap.size) (mW G ad iS iA iL iT iC iR (mE4 r f k) pr ar br (mLnF (mE3 r f k) f (cN (mJd r f k)) (r (68 + k)) ((r 2) - (r (68 + k)))) pf af bf tx) := mD_any hD
        replace hP : va_P G.1 cl0 (mW G ad iS iA iL iT iC iR (mE4 r f k) pr ar br (mEndF r f k) pf af bf tx) H := by rw [show mEndF r f k = mLnF (mE3 r f k) f (cN (mJd r f k)) (r (68 + k)) ((r 2) - (r (68 + k))) from by unfold mEndF; rw [if_pos ⟨hbb, Int32.not_le.mp c_255⟩]]; exact hP
        replace hD : va_D (va_A (mW G ad iS iA iL iT iC iR r pr ar br f pf af bf tx) s.heap.size) (mW G ad iS iA iL iT iC iR (mE4 r f k) pr ar br (mEndF r f k) pf af bf tx) := mD_any hD
        refine lv_aload_n hx hb dX5_endStroke_266 rfl (lv_at hl 5 rfl) ?_
        refine lv_iload_n hx hb dX5_endStroke_267 rfl (lv_at hl 4 rfl) ?_
        refine ol_top (y := nI (cN (mJd r f k))) hjb1 ?_
        refine lv_iload_n hx hb dX5_endStroke_268 rfl (lv_at hl 6 rfl) ?_
        refine lv_aload_n hx hb dX5_endStroke_269 rfl (lv_at hl 5 rfl) ?_
        refine va_get (D := G.1) (ci := 12) (v := .ref (ad 1)) (C := RX5) (T := TX5) (N := 15) hx hb hts in_X5 hown hE.1 hP 0 rfl rfl 0 (by decide) (hts _ q1135) (fun _ h9 => h9) rfl dX5_endStroke_270 ?_
        refine lv_sipush (v := 164) hx hb dX5_endStroke_273 (by decide) ?_
        refine lv_iload_n hx hb dX5_endStroke_276 rfl (lv_at hl 6 rfl) ?_
        refine ol_iadd hx hb 164 k dX5_endStroke_277 ?_
        refine ol_iald hx hb hE.1 hP 1 0 rfl rfl (164 + k) (by omega) (by decide) dX5_endStroke_278 ?_
        refine ol_cM (st1 := []) (va_runV (As := [.int (nI (cN (mJd r f k))), .int (nI k), .int ((mE4 r f k) (164 + k))]) (rest := []) ⟨hx, hb, hml, hown, hts⟩ (mm_giveSign l G ad iS iA iL iT iC iR (mE4 r f k) pr ar br (mEndF r f k) pf af bf tx (cN (mJd r f k)) (nI k) ((mE4 r f k) (164 + k)) Rw Cl (by omega) (mG_of (mE4_lo (by omega)) (mE4_lo (by omega)) hg) (fun z hz => by rw [mE4_lo (by omega)]; exact hty z hz) H.size) (cwV 3 hts (lw_V q1331 q1333 qs44 q73 q1334) rfl rfl rfl (by decide +kernel) ⟨Nat.le_of_ble_eq_true rfl, Nat.le_of_ble_eq_true rfl⟩) (oPc.preV hE (hE.recv (ci := 12) (hP 0 _ rfl) rfl) ⟨rfl, hP, oD_weak hD (fun _ _ => trivial), trivial⟩) rfl rfl hl.1 rfl (lv_room (Nat.le_of_ble_eq_true rfl)) dX5_endStroke_279 ⟨Nat.le_of_ble_eq_true rfl, Nat.le_of_ble_eq_true rfl⟩) hP hD hS hA rfl (fun H locs hP hD hS => ?_)
        replace hP : va_P G.1 cl0 (mW G ad iS iA iL iT iC iR (mE5 r f (Rw * Cl) k) pr ar br (mEndF r f k) pf af bf tx) H := by rw [show mE5 r f (Rw * Cl) k = mGs (mE4 r f k) (Rw * Cl) (cN (mJd r f k)) (nI k) ((mE4 r f k) (164 + k)) from by unfold mE5; rw [if_pos hbb]]; exact hP
        replace hD : va_D (va_A (mW G ad iS iA iL iT iC iR r pr ar br f pf af bf tx) s.heap.size) (mW G ad iS iA iL iT iC iR (mE5 r f (Rw * Cl) k) pr ar br (mEndF r f k) pf af bf tx) := mD_any hD
        refine lv_aload_n hx hb dX5_endStroke_282 rfl (lv_at hl 5 rfl) ?_
        refine va_get (D := G.1) (ci := 12) (v := .ref (ad 1)) (C := RX5) (T := TX5) (N := 15) hx hb hts in_X5 hown hE.1 hP 0 rfl rfl 0 (by decide) (hts _ q1135) (fun _ h9 => h9) rfl dX5_endStroke_283 ?_
        refine lv_bipush (v := 68) hx hb dX5_endStroke_286 (by decide) ?_
        refine lv_iload_n hx hb dX5_endStroke_288 rfl (lv_at hl 6 rfl) ?_
        refine ol_iadd hx hb 68 k dX5_endStroke_289 ?_
        refine lv_bipush (v := (-5)) hx hb dX5_endStroke_290 (by decide) ?_
        refine ol_iast hx hb hE.1 hP hD hS 1 0 rfl rfl (68 + k) (by omega) (by decide) dX5_endStroke_292 (fun H locs hP hD hS => ?_)
        replace hP : va_P G.1 cl0 (mW G ad iS iA iL iT iC iR (upd (mE5 r f (Rw * Cl) k) (68 + k) (-5)) pr ar br (mEndF r f k) pf af bf tx) H := hP
        replace hD : va_D (va_A (mW G ad iS iA iL iT iC iR r pr ar br f pf af bf tx) s.heap.size) (mW G ad iS iA iL iT iC iR (upd (mE5 r f (Rw * Cl) k) (68 + k) (-5)) pr ar br (mEndF r f k) pf af bf tx) := hD
        refine lv_aload_n hx hb dX5_endStroke_293 rfl (lv_at hl 5 rfl) ?_
        refine va_get (D := G.1) (ci := 12) (v := .ref (ad 1)) (C := RX5) (T := TX5) (N := 15) hx hb hts in_X5 hown hE.1 hP 0 rfl rfl 0 (by decide) (hts _ q1135) (fun _ h9 => h9) rfl dX5_endStroke_294 ?_
        refine lv_bipush (v := 116) hx hb dX5_endStroke_297 (by decide) ?_
        refine lv_iload_n hx hb dX5_endStroke_299 rfl (lv_at hl 6 rfl) ?_
        refine ol_iadd hx hb 116 k dX5_endStroke_300 ?_
        refine lv_iconst (v := 0) hx hb dX5_endStroke_301 (by decide) ?_
        refine ol_iast hx hb hE.1 hP hD hS 1 0 rfl rfl (116 + k) (by omega) (by decide) dX5_endStroke_302 (fun H locs hP hD hS => ?_)
        replace hP : va_P G.1 cl0 (mW G ad iS iA iL iT iC iR (upd (upd (mE5 r f (Rw * Cl) k) (68 + k) (-5)) (116 + k) 0) pr ar br (mEndF r f k) pf af bf tx) H := hP
        replace hD : va_D (va_A (mW G ad iS iA iL iT iC iR r pr ar br f pf af bf tx) s.heap.size) (mW G ad iS iA iL iT iC iR (upd (upd (mE5 r f (Rw * Cl) k) (68 + k) (-5)) (116 + k) 0) pr ar br (mEndF r f k) pf af bf tx) := hD
        exact ol_vretE hx hb hr hlocks ⟨rfl, rfl⟩ hP hD hS dX5_endStroke_303
  · refine lv_sipush (v := 404) hx hb dX5_endStroke_144 (by decide) ?_
    refine lv_bipush (v := 7) hx hb dX5_endStroke_147 (by decide) ?_
    refine lv_aload_n hx hb dX5_endStroke_149 rfl (lv_at hl 5 rfl) ?_
    refine va_get (D := G.1) (ci := 12) (v := .ref (ad 1)) (C := RX5) (T := TX5) (N := 15) hx hb hts in_X5 hown hE.1 hP 0 rfl rfl 0 (by decide) (hts _ q1135) (fun _ h9 => h9) rfl dX5_endStroke_150 ?_
    refine lv_bipush (v := 16) hx hb dX5_endStroke_153 (by decide) ?_
    refine ol_iald hx hb hE.1 hP 1 0 rfl rfl 16 (by decide) (by decide) dX5_endStroke_155 ?_
    have h20 := mJd_20 c_141
    have h20 : cN (r 16) ≠ 20 := fun q => h20 (by rw [hd1, q]; rfl)
    refine ol_top (y := nI (cN (r 16))) (by rw [mE1d_lo (by omega) (by omega)]; exact hd1) ?_
    refine ol_imul hx hb 7 (cN (r 16)) dX5_endStroke_156 ?_
    refine ol_iadd hx hb 404 (7 * (cN (r 16))) dX5_endStroke_157 ?_
    refine lv_istore (lv' := [(7, .int (nI (404 + (7 * (cN (r 16)))))), (6, .int (nI (mPl r))), (5, .int (r 9)), (4, .int ((r 2) - (r (68 + k)))), (3, .int (r (68 + k))), (2, .int (mJd r f k)), (0, .ref (ad 0)), (1, .int (nI k))]) hx hb dX5_endStroke_158 hl (by decide) rfl (fun ls hl => ?_)
    refine lv_iconst (v := 0) hx hb dX5_endStroke_160 (by decide) ?_
    refine lv_istore (lv' := [(8, .int 0), (7, .int (nI (404 + (7 * (cN (r 16)))))), (6, .int (nI (mPl r))), (5, .int (r 9)), (4, .int ((r 2) - (r (68 + k)))), (3, .int (r (68 + k))), (2, .int (mJd r f k)), (0, .ref (ad 0)), (1, .int (nI k))]) hx hb dX5_endStroke_161 hl (by decide) rfl (fun ls hl => ?_)
    refine ol_for (P := fun i8 H locs ls => lv_has ls 9 [(8, .int (nI i8)), (7, .int (nI (404 + (7 * (cN (r 16)))))), (6, .int (nI (mPl r))), (5, .int (r 9)), (4, .int ((r 2) - (r (68 + k)))), (3, .int (r (68 + k))), (2, .int (mJd r f k)), (0, .ref (ad 0)), (1, .int (nI k))] ∧ va_P G.1 cl0 (mW G ad iS iA iL iT iC iR (mDcp (mE1d r f k (mPl r)) (mPl r) (404 + 7 * cN (r 16)) i8) pr ar br f pf af bf tx) H ∧ va_D (va_A (mW G ad iS iA iL iT iC iR r pr ar br f pf af bf tx) s.heap.size) (mW G ad iS iA iL iT iC iR (mDcp (mE1d r f k (mPl r)) (mPl r) (404 + 7 * cN (r 16)) i8) pr ar br f pf af bf tx) ∧ va_S (va_A (mW G ad iS iA iL iT iC iR r pr ar br f pf af bf tx) s.heap.size) s.heap H locs) (6) 0 (by omega) ⟨lv_sub hl [0, 1, 2, 3, 4, 5, 6, 7, 8] rfl, hP, hD, hS⟩ (fun i8 H locs ls hi8 hI ih8 => ?_)
    obtain ⟨hl, hP, hD, hS⟩ := hI
    refine lv_iload hx hb dX5_endStroke_163 (lv_at hl 0 rfl) ?_
    refine lv_bipush (v := 6) hx hb dX5_endStroke_165 (by decide) ?_
    refine ol_icmp_ge hx hb i8 6 (by omega) (by omega) (tgt := 196) dX5_endStroke_167 (by decide) (fun c_167 => ?_) (fun c_167 => ?_)
    · have ei8 : 6 = i8 := by omega
      subst ei8
      refine lv_aload_n hx hb dX5_endStroke_196 rfl (lv_at hl 7 rfl) ?_
      refine va_get (D := G.1) (ci := 12) (v := .ref (ad 1)) (C := RX5) (T := TX5) (N := 15) hx hb hts in_X5 hown hE.1 hP 0 rfl rfl 0 (by decide) (hts _ q1135) (fun _ h9 => h9) rfl dX5_endStroke_197 ?_
      refine lv_iload hx hb dX5_endStroke_200 (lv_at hl 1 rfl) ?_
      refine lv_iconst (v := 3) hx hb dX5_endStroke_202 (by decide) ?_
      refine ol_iadd hx hb (404 + (7 * (cN (r 16)))) 3 dX5_endStroke_203 ?_
      refine lv_bipush (v := (-5)) hx hb dX5_endStroke_204 (by decide) ?_
      refine ol_iast hx hb hE.1 hP hD hS 1 0 rfl rfl (404 + (7 * (cN (r 16))) + 3) (by omega) (by decide) dX5_endStroke_206 (fun H locs hP hD hS => ?_)
      replace hP : va_P G.1 cl0 (mW G ad iS iA iL iT iC iR (upd (mDcp (mE1d r f k (mPl r)) (mPl r) (404 + 7 * cN (r 16)) 6) (404 + (7 * (cN (r 16))) + 3) (-5)) pr ar br f pf af bf tx) H := hP
      replace hD : va_D (va_A (mW G ad iS iA iL iT iC iR r pr ar br f pf af bf tx) s.heap.size) (mW G ad iS iA iL iT iC iR (upd (mDcp (mE1d r f k (mPl r)) (mPl r) (404 + 7 * cN (r 16)) 6) (404 + (7 * (cN (r 16))) + 3) (-5)) pr ar br f pf af bf tx) := hD
      refine lv_aload_n hx hb dX5_endStroke_207 rfl (lv_at hl 7 rfl) ?_
      refine va_get (D := G.1) (ci := 12) (v := .ref (ad 1)) (C := RX5) (T := TX5) (N := 15) hx hb hts in_X5 hown hE.1 hP 0 rfl rfl 0 (by decide) (hts _ q1135) (fun _ h9 => h9) rfl dX5_endStroke_208 ?_
      refine lv_iload hx hb dX5_endStroke_211 (lv_at hl 1 rfl) ?_
      refine lv_bipush (v := 6) hx hb dX5_endStroke_213 (by decide) ?_
      refine ol_iadd hx hb (404 + (7 * (cN (r 16)))) 6 dX5_endStroke_215 ?_
      refine lv_iload hx hb dX5_endStroke_216 (lv_at hl 3 rfl) ?_
      refine ol_iast hx hb hE.1 hP hD hS 1 0 rfl rfl (404 + (7 * (cN (r 16))) + 6) (by omega) (by decide) dX5_endStroke_218 (fun H locs hP hD hS => ?_)
      replace hP : va_P G.1 cl0 (mW G ad iS iA iL iT iC iR (upd (upd (mDcp (mE1d r f k (mPl r)) (mPl r) (404 + 7 * cN (r 16)) 6) (404 + (7 * (cN (r 16))) + 3) (-5)) (404 + (7 * (cN (r 16))) + 6) (r 9)) pr ar br f pf af bf tx) H := hP
      replace hD : va_D (va_A (mW G ad iS iA iL iT iC iR r pr ar br f pf af bf tx) s.heap.size) (mW G ad iS iA iL iT iC iR (upd (upd (mDcp (mE1d r f k (mPl r)) (mPl r) (404 + 7 * cN (r 16)) 6) (404 + (7 * (cN (r 16))) + 3) (-5)) (404 + (7 * (cN (r 16))) + 6) (r 9)) pr ar br f pf af bf tx) := hD
      replace hP : va_P G.1 cl0 (mW G ad iS iA iL iT iC iR (mE2a (mE1d r f k (mPl r)) (mPl r) (404 + 7 * cN (r 16)) (r 9)) pr ar br f pf af bf tx) H := hP
      replace hD : va_D (va_A (mW G ad iS iA iL iT iC iR r pr ar br f pf af bf tx) s.heap.size) (mW G ad iS iA iL iT iC iR (mE2a (mE1d r f k (mPl r)) (mPl r) (404 + 7 * cN (r 16)) (r 9)) pr ar br f pf af bf tx) := mD_any hD
      refine lv_aload_n hx hb dX5_endStroke_219 rfl (lv_at hl 7 rfl) ?_
      refine va_get (D := G.1) (ci := 12) (v := .ref (ad 1)) (C := RX5) (T := TX5) (N := 15) hx hb hts in_X5 hown hE.1 hP 0 rfl rfl 0 (by decide) (hts _ q1135) (fun _ h9 => h9) rfl dX5_endStroke_220 ?_
      refine lv_bipush (v := 16) hx hb dX5_endStroke_223 (by decide) ?_
      refine lv_dup2_11 hx hb dX5_endStroke_225 rfl rfl ?_
      refine ol_iald hx hb hE.1 hP 1 0 rfl rfl 16 (by decide) (by decide) dX5_endStroke_226 ?_
      refine lv_iconst (v := 1) hx hb dX5_endStroke_227 (by decide) ?_
      refine lv_iadd hx hb dX5_endStroke_228 ?_
      refine ol_iast hx hb hE.1 hP hD hS 1 0 rfl rfl 16 (by decide) (by decide) dX5_endStroke_229 (fun H locs hP hD hS => ?_)
      replace hP : va_P G.1 cl0 (mW G ad iS iA iL iT iC iR (upd (mE2a (mE1d r f k (mPl r)) (mPl r) (404 + 7 * cN (r 16)) (r 9)) 16 (((mE2a (mE1d r f k (mPl r)) (mPl r) (404 + 7 * cN (r 16)) (r 9)) 16) + 1)) pr ar br f pf af bf tx) H := hP
      replace hD : va_D (va_A (mW G ad iS iA iL iT iC iR r pr ar br f pf af bf tx) s.heap.size) (mW G ad iS iA iL iT iC iR (upd (mE2a (mE1d r f k (mPl r)) (mPl r) (404 + 7 * cN (r 16)) (r 9)) 16 (((mE2a (mE1d r f k (mPl r)) (mPl r) (404 + 7 * cN (r 16)) (r 9)) 16) + 1)) pr ar br f pf af bf tx) := hD
      replace hP : va_P G.1 cl0 (mW G ad iS iA iL iT iC iR (mE2b (mE1d r f k (mPl r)) (mPl r) (404 + 7 * cN (r 16)) (r 9)) pr ar br f pf af bf tx) H := hP
      replace hD : va_D (va_A (mW G ad iS iA iL iT iC iR r pr ar br f pf af bf tx) s.heap.size) (mW G ad iS iA iL iT iC iR (mE2b (mE1d r f k (mPl r)) (mPl r) (404 + 7 * cN (r 16)) (r 9)) pr ar br f pf af bf tx) := mD_any hD
      replace hP : va_P G.1 cl0 (mW G ad iS iA iL iT iC iR (mE2 r f k) pr ar br f pf af bf tx) H := by rw [show mE2 r f k = mE2b (mE1d r f k (mPl r)) (mPl r) (404 + 7 * cN (r 16)) (r 9) from by unfold mE2; rw [if_pos c_141]]; exact hP
      replace hD : va_D (va_A (mW G ad iS iA iL iT iC iR r pr ar br f pf af bf tx) s.heap.size) (mW G ad iS iA iL iT iC iR (mE2 r f k) pr ar br f pf af bf tx) := mD_any hD
      refine lv_aload_n hx hb dX5_endStroke_230 rfl (lv_at hl 7 rfl) ?_
      refine lv_iload_n hx hb dX5_endStroke_231 rfl (lv_at hl 6 rfl) ?_
      refine lv_aload_n hx hb dX5_endStroke_232 rfl (lv_at hl 7 rfl) ?_
      refine va_get (D := G.1) (ci := 12) (v := .ref (ad 1)) (C := RX5) (T := TX5) (N := 15) hx hb hts in_X5 hown hE.1 hP 0 rfl rfl 0 (by decide) (hts _ q1135) (fun _ h9 => h9) rfl dX5_endStroke_233 ?_
      refine lv_sipush (v := 212) hx hb dX5_endStroke_236 (by decide) ?_
      refine lv_iload_n hx hb dX5_endStroke_239 rfl (lv_at hl 8 rfl) ?_
      refine ol_iadd hx hb 212 k dX5_endStroke_240 ?_
      refine ol_iald hx hb hE.1 hP 1 0 rfl rfl (212 + k) (by omega) (by decide) dX5_endStroke_241 ?_
      refine ol_cM (st1 := []) (va_runV (As := [.int (mJd r f k), .int ((mE2 r f k) (212 + k))]) (rest := []) ⟨hx, hb, hml, hown, hts⟩ (mm_countIt l G ad iS iA iL iT iC iR (mE2 r f k) pr ar br f pf af bf tx (mJd r f k) ((mE2 r f k) (212 + k)) hj0 H.size) (cwV 2 hts (lw_V q1319 q1321 qs41 q73 q1322) rfl rfl rfl (by decide +kernel) ⟨Nat.le_of_ble_eq_true rfl, Nat.le_of_ble_eq_true rfl⟩) (oPc.preV hE (hE.recv (ci := 12) (hP 0 _ rfl) rfl) ⟨rfl, hP, oD_weak hD (fun _ _ => trivial), trivial⟩) rfl rfl hl.1 rfl (lv_room (Nat.le_of_ble_eq_true rfl)) dX5_endStroke_242 ⟨Nat.le_of_ble_eq_true rfl, Nat.le_of_ble_eq_true rfl⟩) hP hD hS hA rfl (fun H locs hP hD hS => ?_)
      replace hP : va_P G.1 cl0 (mW G ad iS iA iL iT iC iR (mE3 r f k) pr ar br f pf af bf tx) H := hP
      replace hD : va_D (va_A (mW G ad iS iA iL iT iC iR r pr ar br f pf af bf tx) s.heap.size) (mW G ad iS iA iL iT iC iR (mE3 r f k) pr ar br f pf af bf tx) := mD_any hD
      refine lv_iload_n hx hb dX5_endStroke_245 rfl (lv_at hl 6 rfl) ?_
      refine lv_iconst (v := 2) hx hb dX5_endStroke_246 (by decide) ?_
      refine lv_icmp_ge (tgt := 282) hx hb dX5_endStroke_247 (by decide) (fun c_247 => ?_) (fun c_247 => ?_)
      · have hnb : ¬ mJd r f k < 2 := Int32.not_lt.mpr c_247
        replace hP : va_P G.1 cl0 (mW G ad iS iA iL iT iC iR (mE4 r f k) pr ar br f pf af bf tx) H := by rw [show mE4 r f k = mE3 r f k from by unfold mE4; rw [if_neg (fun q => hnb q.1)]]; exact hP
        replace hD : va_D (va_A (mW G ad iS iA iL iT iC iR r pr ar br f pf af bf tx) s.heap.size) (mW G ad iS iA iL iT iC iR (mE4 r f k) pr ar br f pf af bf tx) := mD_any hD
        replace hP : va_P G.1 cl0 (mW G ad iS iA iL iT iC iR (mE4 r f k) pr ar br (mEndF r f k) pf af bf tx) H := by rw [show mEndF r f k = f from by unfold mEndF; rw [if_neg (fun q => hnb q.1)]]; exact hP
        replace hD : va_D (va_A (mW G ad iS iA iL iT iC iR r pr ar br f pf af bf tx) s.heap.size) (mW G ad iS iA iL iT iC iR (mE4 r f k) pr ar br (mEndF r f k) pf af bf tx) := mD_any hD
        replace hP : va_P G.1 cl0 (mW G ad iS iA iL iT iC iR (mE5 r f (Rw * Cl) k) pr ar br (mEndF r f k) pf af bf tx) H := by rw [show mE5 r f (Rw * Cl) k = mE4 r f k from by unfold mE5; rw [if_neg hnb]]; exact hP
        replace hD : va_D (va_A (mW G ad iS iA iL iT iC iR r pr ar br f pf af bf tx) s.heap.size) (mW G ad iS iA iL iT iC iR (mE5 r f (Rw * Cl) k) pr ar br (mEndF r f k) pf af bf tx) := mD_any hD
        refine lv_aload_n hx hb dX5_endStroke_282 rfl (lv_at hl 7 rfl) ?_
        refine va_get (D := G.1) (ci := 12) (v := .ref (ad 1)) (C := RX5) (T := TX5) (N := 15) hx hb hts in_X5 hown hE.1 hP 0 rfl rfl 0 (by decide) (hts _ q1135) (fun _ h9 => h9) rfl dX5_endStroke_283 ?_
        refine lv_bipush (v := 68) hx hb dX5_endStroke_286 (by decide) ?_
        refine lv_iload_n hx hb dX5_endStroke_288 rfl (lv_at hl 8 rfl) ?_
        refine ol_iadd hx hb 68 k dX5_endStroke_289 ?_
        refine lv_bipush (v := (-5)) hx hb dX5_endStroke_290 (by decide) ?_
        refine ol_iast hx hb hE.1 hP hD hS 1 0 rfl rfl (68 + k) (by omega) (by decide) dX5_endStroke_292 (fun H locs hP hD hS => ?_)
        replace hP : va_P G.1 cl0 (mW G ad iS iA iL iT iC iR (upd (mE5 r f (Rw * Cl) k) (68 + k) (-5)) pr ar br (mEndF r f k) pf af bf tx) H := hP
        replace hD : va_D (va_A (mW G ad iS iA iL iT iC iR r pr ar br f pf af bf tx) s.heap.size) (mW G ad iS iA iL iT iC iR (upd (mE5 r f (Rw * Cl) k) (68 + k) (-5)) pr ar br (mEndF r f k) pf af bf tx) := hD
        refine lv_aload_n hx hb dX5_endStroke_293 rfl (lv_at hl 7 rfl) ?_
        refine va_get (D := G.1) (ci := 12) (v := .ref (ad 1)) (C := RX5) (T := TX5) (N := 15) hx hb hts in_X5 hown hE.1 hP 0 rfl rfl 0 (by decide) (hts _ q1135) (fun _ h9 => h9) rfl dX5_endStroke_294 ?_
        refine lv_bipush (v := 116) hx hb dX5_endStroke_297 (by decide) ?_
        refine lv_iload_n hx hb dX5_endStroke_299 rfl (lv_at hl 8 rfl) ?_
        refine ol_iadd hx hb 116 k dX5_endStroke_300 ?_
        refine lv_iconst (v := 0) hx hb dX5_endStroke_301 (by decide) ?_
        refine ol_iast hx hb hE.1 hP hD hS 1 0 rfl rfl (116 + k) (by omega) (by decide) dX5_endStroke_302 (fun H locs hP hD hS => ?_)
        replace hP : va_P G.1 cl0 (mW G ad iS iA iL iT iC iR (upd (upd (mE5 r f (Rw * Cl) k) (68 + k) (-5)) (116 + k) 0) pr ar br (mEndF r f k) pf af bf tx) H := hP
        replace hD : va_D (va_A (mW G ad iS iA iL iT iC iR r pr ar br f pf af bf tx) s.heap.size) (mW G ad iS iA iL iT iC iR (upd (upd (mE5 r f (Rw * Cl) k) (68 + k) (-5)) (116 + k) 0) pr ar br (mEndF r f k) pf af bf tx) := hD
        exact ol_vretE hx hb hr hlocks ⟨rfl, rfl⟩ hP hD hS dX5_endStroke_303
      · exact absurd (by rw [show mJd r f k = 3 from c_141]; decide) c_247
    · refine lv_aload_n hx hb dX5_endStroke_170 rfl (lv_at hl 7 rfl) ?_
      refine va_get (D := G.1) (ci := 12) (v := .ref (ad 1)) (C := RX5) (T := TX5) (N := 15) hx hb hts in_X5 hown hE.1 hP 0 rfl rfl 0 (by decide) (hts _ q1135) (fun _ h9 => h9) rfl dX5_endStroke_171 ?_
      refine lv_iload hx hb dX5_endStroke_174 (lv_at hl 1 rfl) ?_
      refine lv_iload hx hb dX5_endStroke_176 (lv_at hl 0 rfl) ?_
      refine ol_iadd hx hb (404 + (7 * (cN (r 16)))) i8 dX5_endStroke_178 ?_
      refine lv_aload_n hx hb dX5_endStroke_179 rfl (lv_at hl 7 rfl) ?_
      refine va_get (D := G.1) (ci := 12) (v := .ref (ad 1)) (C := RX5) (T := TX5) (N := 15) hx hb hts in_X5 hown hE.1 hP 0 rfl rfl 0 (by decide) (hts _ q1135) (fun _ h9 => h9) rfl dX5_endStroke_180 ?_
      refine lv_iload hx hb dX5_endStroke_183 (lv_at hl 2 rfl) ?_
      refine lv_iload hx hb dX5_endStroke_185 (lv_at hl 0 rfl) ?_
      refine ol_iadd hx hb (mPl r) i8 dX5_endStroke_187 ?_
      refine ol_iald hx hb hE.1 hP 1 0 rfl rfl (mPl r + i8) (by omega) (by decide) dX5_endStroke_188 ?_
      refine ol_iast hx hb hE.1 hP hD hS 1 0 rfl rfl (404 + (7 * (cN (r 16))) + i8) (by omega) (by decide) dX5_endStroke_189 (fun H locs hP hD hS => ?_)
      replace hP : va_P G.1 cl0 (mW G ad iS iA iL iT iC iR (upd (mDcp (mE1d r f k (mPl r)) (mPl r) (404 + 7 * cN (r 16)) i8) (404 + (7 * (cN (r 16))) + i8) ((mDcp (mE1d r f k (mPl r)) (mPl r) (404 + 7 * cN (r 16)) i8) (mPl r + i8))) pr ar br f pf af bf tx) H := hP
      replace hD : va_D (va_A (mW G ad iS iA iL iT iC iR r pr ar br f pf af bf tx) s.heap.size) (mW G ad iS iA iL iT iC iR (upd (mDcp (mE1d r f k (mPl r)) (mPl r) (404 + 7 * cN (r 16)) i8) (404 + (7 * (cN (r 16))) + i8) ((mDcp (mE1d r f k (mPl r)) (mPl r) (404 + 7 * cN (r 16)) i8) (mPl r + i8))) pr ar br f pf af bf tx) := hD
      refine ol_iinc (k := 0) (lv' := [(8, .int (nI (i8 + 1))), (7, .int (nI (404 + (7 * (cN (r 16)))))), (6, .int (nI (mPl r))), (5, .int (r 9)), (4, .int ((r 2) - (r (68 + k)))), (3, .int (r (68 + k))), (2, .int (mJd r f k)), (0, .ref (ad 0)), (1, .int (nI k))]) hx hb 1 i8 dX5_endStroke_190 hl rfl (by decide) rfl (fun ls hl => ?_)
      refine lv_goto (tgt := 163) hx hb dX5_endStroke_193 (by decide) ?_
      refine ih8 H locs ls (by omega) ⟨?_, ?_, ?_, hS⟩
      · exact lv_sub hl [0, 1, 2, 3, 4, 5, 6, 7, 8] rfl
      · exact hP
      · exact mD_any hD
