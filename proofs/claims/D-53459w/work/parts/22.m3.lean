/-! THE REFERENCE: copying methods -/
def mClr (r : Nat → Int32) : Nat → Nat → Int32
  | 0 => r
  | k + 1 => upd (upd (upd (upd (upd (upd (mClr r k) (20 + k) (-5)) (68 + k) (-5)) (116 + k) 0) (164 + k) 0) (212 + k) (-5)) (260 + k) 46
def mCp (src dst : Nat → Int32) : Nat → Nat → Int32
  | 0 => dst
  | k + 1 => upd (mCp src dst k) k (src k)
def mCf (src dst : Nat → UInt32) : Nat → Nat → UInt32
  | 0 => dst
  | k + 1 => vf_upd (mCf src dst k) k (src k)
/-- into a stretch from d on -/
def mCpT (src dst : Nat → Int32) (d : Nat) : Nat → Nat → Int32
  | 0 => dst
  | k + 1 => upd (mCpT src dst d k) (d + k) (src k)
def mCfT (src dst : Nat → UInt32) (d : Nat) : Nat → Nat → UInt32
  | 0 => dst
  | k + 1 => vf_upd (mCfT src dst d k) (d + k) (src k)
/-- out of a stretch from d on -/
def mCpF (src dst : Nat → Int32) (d : Nat) : Nat → Nat → Int32
  | 0 => dst
  | k + 1 => upd (mCpF src dst d k) k (src (d + k))
def mCfF (src dst : Nat → UInt32) (d : Nat) : Nat → Nat → UInt32
  | 0 => dst
  | k + 1 => vf_upd (mCfF src dst d k) k (src (d + k))
/-- down within itself by d places -/
def mDn (src : Nat → Int32) (d : Nat) : Nat → Nat → Int32
  | 0 => src
  | k + 1 => upd (mDn src d k) k (mDn src d k (d + k))
def mDf (src : Nat → UInt32) (d : Nat) : Nat → Nat → UInt32
  | 0 => src
  | k + 1 => vf_upd (mDf src d k) k (mDf src d k (d + k))
def mRecP (pr br : Nat → Int32) (st : Nat) : Nat → Int32 := if st = 4 then mCpT br (mDn pr 592 1776) (592 * (st - 1)) 592 else mCpT br pr (592 * st) 592
def mRecF (pf bf : Nat → UInt32) (st : Nat) : Nat → UInt32 := if st = 4 then mCfT bf (mDf pf 7 21) (7 * (st - 1)) 7 else mCfT bf pf (7 * st) 7
def mUndoR (st : Nat) : Int32 := if st = 0 then -5 else nI (st - 1)
def mUndoP (pr r : Nat → Int32) (st : Nat) : Nat → Int32 := if st = 0 then r else mCpF pr r (592 * (st - 1)) 592
def mUndoF (pf f : Nat → UInt32) (st : Nat) : Nat → UInt32 := if st = 0 then f else mCfF pf f (7 * (st - 1)) 7
def mRecN (st : Nat) : Nat := if st = 4 then st - 1 + 1 else st + 1
set_option maxHeartbeats 4000000 in
set_option maxRecDepth 100000 in
theorem mm_clearKeys (l : Launch) (G : oG) (ad : Nat → Nat) (iS : Int32) (iA : Int32) (iL : Int32) (iT : Int32) (iC : Int32) (iR : Int32) (r : Nat → Int32) (pr : Nat → Int32) (ar : Nat → Int32) (br : Nat → Int32) (f : Nat → UInt32) (pf : Nat → UInt32) (af : Nat → UInt32) (bf : Nat → UInt32) (tx : Nat → Int32)    (sz : Nat) : Met l yX5_clearKeys (ws_ yX5_clearKeys cX5_clearKeys 2 none) ({ frames := 0, cells := 0, slots := 0, locals := 0 }) (oPc G [.ref (ad 0)] (oPE G (mW G ad iS iA iL iT iC iR r pr ar br f pf af bf tx) sz (fun _ => True))) (oE G (fun v_ W_ => v_ = none ∧ W_ = mW G ad iS iA iL iT iC iR (mClr r 48) pr ar br f pf af bf tx) (mW G ad iS iA iL iT iC iR r pr ar br f pf af bf tx) sz) 0 0 (va_A (mW G ad iS iA iL iT iC iR r pr ar br f pf af bf tx) sz) := by
  refine Met.ofW (cc := cX5_clearKeys) (maxL := 2) (ret := none) (by decide) rfl ?_
  intro p e s m args below meth c s₁ B hml hv
  obtain ⟨rfl, ⟨hsz, hP, hD0, hX⟩, hE⟩ := hv
  have hx := B.exec
  have hb := B.bytes
  have hr := B.returns
  have hts := atoms_spec (ws := ws_ yX5_clearKeys cX5_clearKeys 2 none) B.pre
  have hts : ∀ w ∈ lw_all, w.before _ s = true := fun w h => hts w (List.mem_cons_of_mem _ h)
  have hown : s.vm.findClass RX5 = some m.cls := findClass_of_methodNamed B.named
  have hlocks := B.notSynchronized
  subst hsz
  have hD := hD0.self (sz := s.heap.size)
  have hA : ∀ q : Nat, s.heap.size ≤ q → va_A (mW G ad iS iA iL iT iC iR r pr ar br f pf af bf tx) s.heap.size q := fun q h => Or.inr h
  have hl := lv_entry ([.ref (ad 0)]) (n := 2) (Nat.le_of_ble_eq_true rfl)
  rw [lg_entry_eq]
  generalize (lg_sl ([.ref (ad 0)]) ++ List.replicate (2 - (lg_sl ([.ref (ad 0)])).length) Slot.unset).toArray = ls at hl ⊢
  replace hl : lv_has ls 2 [(0, .ref (ad 0))] := hl
  refine ol_start (A := va_A (mW G ad iS iA iL iT iC iR r pr ar br f pf af bf tx) s.heap.size) (fun H locs hH hS => ?_)
  rw [← hH] at hP
  clear hH
  refine lv_iconst (v := 0) hx hb dX5_clearKeys_0 (by decide) ?_
  refine lv_istore_n (lv' := [(1, .int 0), (0, .ref (ad 0))]) hx hb dX5_clearKeys_1 rfl hl (by decide) rfl (fun ls hl => ?_)
  refine ol_for (P := fun i1 H locs ls => lv_has ls 2 [(1, .int (nI i1)), (0, .ref (ad 0))] ∧ va_P G.1 cl0 (mW G ad iS iA iL iT iC iR (mClr r i1) pr ar br f pf af bf tx) H ∧ va_D (va_A (mW G ad iS iA iL iT iC iR r pr ar br f pf af bf tx) s.heap.size) (mW G ad iS iA iL iT iC iR (mClr r i1) pr ar br f pf af bf tx) ∧ va_S (va_A (mW G ad iS iA iL iT iC iR r pr ar br f pf af bf tx) s.heap.size) s.heap H locs) (48) 0 (by omega) ⟨lv_sub hl [0, 1] rfl, hP, hD, hS⟩ (fun i1 H locs ls hi1 hI ih1 => ?_)
  obtain ⟨hl, hP, hD, hS⟩ := hI
  refine lv_iload_n hx hb dX5_clearKeys_2 rfl (lv_at hl 0 rfl) ?_
  refine lv_bipush (v := 48) hx hb dX5_clearKeys_3 (by decide) ?_
  refine ol_icmp_ge hx hb i1 48 (by omega) (by omega) (tgt := 81) dX5_clearKeys_5 (by decide) (fun c_5 => ?_) (fun c_5 => ?_)
  · have ei1 : 48 = i1 := by omega
    subst ei1
    exact ol_vretE hx hb hr hlocks ⟨rfl, rfl⟩ hP hD hS dX5_clearKeys_81
  · refine lv_aload_n hx hb dX5_clearKeys_8 rfl (lv_at hl 1 rfl) ?_
    refine va_get (D := G.1) (ci := 12) (v := .ref (ad 1)) (C := RX5) (T := TX5) (N := 15) hx hb hts in_X5 hown hE.1 hP 0 rfl rfl 0 (by decide) (hts _ q1135) (fun _ h9 => h9) rfl dX5_clearKeys_9 ?_
    refine lv_bipush (v := 20) hx hb dX5_clearKeys_12 (by decide) ?_
    refine lv_iload_n hx hb dX5_clearKeys_14 rfl (lv_at hl 0 rfl) ?_
    refine ol_iadd hx hb 20 i1 dX5_clearKeys_15 ?_
    refine lv_bipush (v := (-5)) hx hb dX5_clearKeys_16 (by decide) ?_
    refine ol_iast hx hb hE.1 hP hD hS 1 0 rfl rfl (20 + i1) (by omega) (by decide) dX5_clearKeys_18 (fun H locs hP hD hS => ?_)
    replace hP : va_P G.1 cl0 (mW G ad iS iA iL iT iC iR (upd (mClr r i1) (20 + i1) (-5)) pr ar br f pf af bf tx) H := hP
    replace hD : va_D (va_A (mW G ad iS iA iL iT iC iR r pr ar br f pf af bf tx) s.heap.size) (mW G ad iS iA iL iT iC iR (upd (mClr r i1) (20 + i1) (-5)) pr ar br f pf af bf tx) := hD
    refine lv_aload_n hx hb dX5_clearKeys_19 rfl (lv_at hl 1 rfl) ?_
    refine va_get (D := G.1) (ci := 12) (v := .ref (ad 1)) (C := RX5) (T := TX5) (N := 15) hx hb hts in_X5 hown hE.1 hP 0 rfl rfl 0 (by decide) (hts _ q1135) (fun _ h9 => h9) rfl dX5_clearKeys_20 ?_
    refine lv_bipush (v := 68) hx hb dX5_clearKeys_23 (by decide) ?_
    refine lv_iload_n hx hb dX5_clearKeys_25 rfl (lv_at hl 0 rfl) ?_
    refine ol_iadd hx hb 68 i1 dX5_clearKeys_26 ?_
    refine lv_bipush (v := (-5)) hx hb dX5_clearKeys_27 (by decide) ?_
    refine ol_iast hx hb hE.1 hP hD hS 1 0 rfl rfl (68 + i1) (by omega) (by decide) dX5_clearKeys_29 (fun H locs hP hD hS => ?_)
    replace hP : va_P G.1 cl0 (mW G ad iS iA iL iT iC iR (upd (upd (mClr r i1) (20 + i1) (-5)) (68 + i1) (-5)) pr ar br f pf af bf tx) H := hP
    replace hD : va_D (va_A (mW G ad iS iA iL iT iC iR r pr ar br f pf af bf tx) s.heap.size) (mW G ad iS iA iL iT iC iR (upd (upd (mClr r i1) (20 + i1) (-5)) (68 + i1) (-5)) pr ar br f pf af bf tx) := hD
    refine lv_aload_n hx hb dX5_clearKeys_30 rfl (lv_at hl 1 rfl) ?_
    refine va_get (D := G.1) (ci := 12) (v := .ref (ad 1)) (C := RX5) (T := TX5) (N := 15) hx hb hts in_X5 hown hE.1 hP 0 rfl rfl 0 (by decide) (hts _ q1135) (fun _ h9 => h9) rfl dX5_clearKeys_31 ?_
    refine lv_bipush (v := 116) hx hb dX5_clearKeys_34 (by decide) ?_
    refine lv_iload_n hx hb dX5_clearKeys_36 rfl (lv_at hl 0 rfl) ?_
    refine ol_iadd hx hb 116 i1 dX5_clearKeys_37 ?_
    refine lv_iconst (v := 0) hx hb dX5_clearKeys_38 (by decide) ?_
    refine ol_iast hx hb hE.1 hP hD hS 1 0 rfl rfl (116 + i1) (by omega) (by decide) dX5_clearKeys_39 (fun H locs hP hD hS => ?_)
    replace hP : va_P G.1 cl0 (mW G ad iS iA iL iT iC iR (upd (upd (upd (mClr r i1) (20 + i1) (-5)) (68 + i1) (-5)) (116 + i1) 0) pr ar br f pf af bf tx) H := hP
    replace hD : va_D (va_A (mW G ad iS iA iL iT iC iR r pr ar br f pf af bf tx) s.heap.size) (mW G ad iS iA iL iT iC iR (upd (upd (upd (mClr r i1) (20 + i1) (-5)) (68 + i1) (-5)) (116 + i1) 0) pr ar br f pf af bf tx) := hD
    refine lv_aload_n hx hb dX5_clearKeys_40 rfl (lv_at hl 1 rfl) ?_
    refine va_get (D := G.1) (ci := 12) (v := .ref (ad 1)) (C := RX5) (T := TX5) (N := 15) hx hb hts in_X5 hown hE.1 hP 0 rfl rfl 0 (by decide) (hts _ q1135) (fun _ h9 => h9) rfl dX5_clearKeys_41 ?_
    refine lv_sipush (v := 164) hx hb dX5_clearKeys_44 (by decide) ?_
    refine lv_iload_n hx hb dX5_clearKeys_47 rfl (lv_at hl 0 rfl) ?_
    refine ol_iadd hx hb 164 i1 dX5_clearKeys_48 ?_
    refine lv_iconst (v := 0) hx hb dX5_clearKeys_49 (by decide) ?_
    refine ol_iast hx hb hE.1 hP hD hS 1 0 rfl rfl (164 + i1) (by omega) (by decide) dX5_clearKeys_50 (fun H locs hP hD hS => ?_)
    replace hP : va_P G.1 cl0 (mW G ad iS iA iL iT iC iR (upd (upd (upd (upd (mClr r i1) (20 + i1) (-5)) (68 + i1) (-5)) (116 + i1) 0) (164 + i1) 0) pr ar br f pf af bf tx) H := hP
    replace hD : va_D (va_A (mW G ad iS iA iL iT iC iR r pr ar br f pf af bf tx) s.heap.size) (mW G ad iS iA iL iT iC iR (upd (upd (upd (upd (mClr r i1) (20 + i1) (-5)) (68 + i1) (-5)) (116 + i1) 0) (164 + i1) 0) pr ar br f pf af bf tx) := hD
    refine lv_aload_n hx hb dX5_clearKeys_51 rfl (lv_at hl 1 rfl) ?_
    refine va_get (D := G.1) (ci := 12) (v := .ref (ad 1)) (C := RX5) (T := TX5) (N := 15) hx hb hts in_X5 hown hE.1 hP 0 rfl rfl 0 (by decide) (hts _ q1135) (fun _ h9 => h9) rfl dX5_clearKeys_52 ?_
    refine lv_sipush (v := 212) hx hb dX5_clearKeys_55 (by decide) ?_
    refine lv_iload_n hx hb dX5_clearKeys_58 rfl (lv_at hl 0 rfl) ?_
    refine ol_iadd hx hb 212 i1 dX5_clearKeys_59 ?_
    refine lv_bipush (v := (-5)) hx hb dX5_clearKeys_60 (by decide) ?_
    refine ol_iast hx hb hE.1 hP hD hS 1 0 rfl rfl (212 + i1) (by omega) (by decide) dX5_clearKeys_62 (fun H locs hP hD hS => ?_)
    replace hP : va_P G.1 cl0 (mW G ad iS iA iL iT iC iR (upd (upd (upd (upd (upd (mClr r i1) (20 + i1) (-5)) (68 + i1) (-5)) (116 + i1) 0) (164 + i1) 0) (212 + i1) (-5)) pr ar br f pf af bf tx) H := hP
    replace hD : va_D (va_A (mW G ad iS iA iL iT iC iR r pr ar br f pf af bf tx) s.heap.size) (mW G ad iS iA iL iT iC iR (upd (upd (upd (upd (upd (mClr r i1) (20 + i1) (-5)) (68 + i1) (-5)) (116 + i1) 0) (164 + i1) 0) (212 + i1) (-5)) pr ar br f pf af bf tx) := hD
    refine lv_aload_n hx hb dX5_clearKeys_63 rfl (lv_at hl 1 rfl) ?_
    refine va_get (D := G.1) (ci := 12) (v := .ref (ad 1)) (C := RX5) (T := TX5) (N := 15) hx hb hts in_X5 hown hE.1 hP 0 rfl rfl 0 (by decide) (hts _ q1135) (fun _ h9 => h9) rfl dX5_clearKeys_64 ?_
    refine lv_sipush (v := 260) hx hb dX5_clearKeys_67 (by decide) ?_
    refine lv_iload_n hx hb dX5_clearKeys_70 rfl (lv_at hl 0 rfl) ?_
    refine ol_iadd hx hb 260 i1 dX5_clearKeys_71 ?_
    refine lv_bipush (v := 46) hx hb dX5_clearKeys_72 (by decide) ?_
    refine ol_iast hx hb hE.1 hP hD hS 1 0 rfl rfl (260 + i1) (by omega) (by decide) dX5_clearKeys_74 (fun H locs hP hD hS => ?_)
    replace hP : va_P G.1 cl0 (mW G ad iS iA iL iT iC iR (upd (upd (upd (upd (upd (upd (mClr r i1) (20 + i1) (-5)) (68 + i1) (-5)) (116 + i1) 0) (164 + i1) 0) (212 + i1) (-5)) (260 + i1) 46) pr ar br f pf af bf tx) H := hP
    replace hD : va_D (va_A (mW G ad iS iA iL iT iC iR r pr ar br f pf af bf tx) s.heap.size) (mW G ad iS iA iL iT iC iR (upd (upd (upd (upd (upd (upd (mClr r i1) (20 + i1) (-5)) (68 + i1) (-5)) (116 + i1) 0) (164 + i1) 0) (212 + i1) (-5)) (260 + i1) 46) pr ar br f pf af bf tx) := hD
    refine ol_iinc (k := 0) (lv' := [(1, .int (nI (i1 + 1))), (0, .ref (ad 0))]) hx hb 1 i1 dX5_clearKeys_75 hl rfl (by decide) rfl (fun ls hl => ?_)
    refine lv_goto (tgt := 2) hx hb dX5_clearKeys_78 (by decide) ?_
    refine ih1 H locs ls (by omega) ⟨?_, ?_, ?_, hS⟩
    · exact lv_sub hl [0, 1] rfl
    · exact hP
    · exact mD_any hD
set_option maxHeartbeats 4000000 in
set_option maxRecDepth 100000 in
theorem mm_remember (l : Launch) (G : oG) (ad : Nat → Nat) (iS : Int32) (iA : Int32) (iL : Int32) (iT : Int32) (iC : Int32) (iR : Int32) (r : Nat → Int32) (pr : Nat → Int32) (ar : Nat → Int32) (br : Nat → Int32) (f : Nat → UInt32) (pf : Nat → UInt32) (af : Nat → UInt32) (bf : Nat → UInt32) (tx : Nat → Int32)    (sz : Nat) : Met l yX5_remember (ws_ yX5_remember cX5_remember 2 none) ({ frames := 0, cells := 0, slots := 0, locals := 0 }) (oPc G [.ref (ad 0)] (oPE G (mW G ad iS iA iL iT iC iR r pr ar br f pf af bf tx) sz (fun _ => True))) (oE G (fun v_ W_ => v_ = none ∧ W_ = mW G ad iS iA iL iT iC iR r pr ar (mCp r br 592) f pf af (mCf f bf 7) tx) (mW G ad iS iA iL iT iC iR r pr ar br f pf af bf tx) sz) 0 0 (va_A (mW G ad iS iA iL iT iC iR r pr ar br f pf af bf tx) sz) := by
  refine Met.ofW (cc := cX5_remember) (maxL := 2) (ret := none) (by decide) rfl ?_
  intro p e s m args below meth c s₁ B hml hv
  obtain ⟨rfl, ⟨hsz, hP, hD0, hX⟩, hE⟩ := hv
  have hx := B.exec
  have hb := B.bytes
  have hr := B.returns
  have hts := atoms_spec (ws := ws_ yX5_remember cX5_remember 2 none) B.pre
  have hts : ∀ w ∈ lw_all, w.before _ s = true := fun w h => hts w (List.mem_cons_of_mem _ h)
  have hown : s.vm.findClass RX5 = some m.cls := findClass_of_methodNamed B.named
  have hlocks := B.notSynchronized
  subst hsz
  have hD := hD0.self (sz := s.heap.size)
  have hA : ∀ q : Nat, s.heap.size ≤ q → va_A (mW G ad iS iA iL iT iC iR r pr ar br f pf af bf tx) s.heap.size q := fun q h => Or.inr h
  have hl := lv_entry ([.ref (ad 0)]) (n := 2) (Nat.le_of_ble_eq_true rfl)
  rw [lg_entry_eq]
  generalize (lg_sl ([.ref (ad 0)]) ++ List.replicate (2 - (lg_sl ([.ref (ad 0)])).length) Slot.unset).toArray = ls at hl ⊢
  replace hl : lv_has ls 2 [(0, .ref (ad 0))] := hl
  refine ol_start (A := va_A (mW G ad iS iA iL iT iC iR r pr ar br f pf af bf tx) s.heap.size) (fun H locs hH hS => ?_)
  rw [← hH] at hP
  clear hH
  refine lv_iconst (v := 0) hx hb dX5_remember_0 (by decide) ?_
  refine lv_istore_n (lv' := [(1, .int 0), (0, .ref (ad 0))]) hx hb dX5_remember_1 rfl hl (by decide) rfl (fun ls hl => ?_)
  refine ol_for (P := fun i1 H locs ls => lv_has ls 2 [(1, .int (nI i1)), (0, .ref (ad 0))] ∧ va_P G.1 cl0 (mW G ad iS iA iL iT iC iR r pr ar (mCp r br i1) f pf af bf tx) H ∧ va_D (va_A (mW G ad iS iA iL iT iC iR r pr ar br f pf af bf tx) s.heap.size) (mW G ad iS iA iL iT iC iR r pr ar (mCp r br i1) f pf af bf tx) ∧ va_S (va_A (mW G ad iS iA iL iT iC iR r pr ar br f pf af bf tx) s.heap.size) s.heap H locs) (592) 0 (by omega) ⟨lv_sub hl [0, 1] rfl, hP, hD, hS⟩ (fun i1 H locs ls hi1 hI ih1 => ?_)
  obtain ⟨hl, hP, hD, hS⟩ := hI
  refine lv_iload_n hx hb dX5_remember_2 rfl (lv_at hl 0 rfl) ?_
  refine lv_sipush (v := 592) hx hb dX5_remember_3 (by decide) ?_
  refine ol_icmp_ge hx hb i1 592 (by omega) (by omega) (tgt := 27) dX5_remember_6 (by decide) (fun c_6 => ?_) (fun c_6 => ?_)
  · have ei1 : 592 = i1 := by omega
    subst ei1
    refine lv_iconst (v := 0) hx hb dX5_remember_27 (by decide) ?_
    refine lv_istore_n (lv' := [(1, .int 0), (0, .ref (ad 0))]) hx hb dX5_remember_28 rfl hl (by decide) rfl (fun ls hl => ?_)
    refine ol_for (P := fun i2 H locs ls => lv_has ls 2 [(1, .int (nI i2)), (0, .ref (ad 0))] ∧ va_P G.1 cl0 (mW G ad iS iA iL iT iC iR r pr ar (mCp r br 592) f pf af (mCf f bf i2) tx) H ∧ va_D (va_A (mW G ad iS iA iL iT iC iR r pr ar br f pf af bf tx) s.heap.size) (mW G ad iS iA iL iT iC iR r pr ar (mCp r br 592) f pf af (mCf f bf i2) tx) ∧ va_S (va_A (mW G ad iS iA iL iT iC iR r pr ar br f pf af bf tx) s.heap.size) s.heap H locs) (7) 0 (by omega) ⟨lv_sub hl [0, 1] rfl, hP, hD, hS⟩ (fun i2 H locs ls hi2 hI ih2 => ?_)
    obtain ⟨hl, hP, hD, hS⟩ := hI
    refine lv_iload_n hx hb dX5_remember_29 rfl (lv_at hl 0 rfl) ?_
    refine lv_bipush (v := 7) hx hb dX5_remember_30 (by decide) ?_
    refine ol_icmp_ge hx hb i2 7 (by omega) (by omega) (tgt := 53) dX5_remember_32 (by decide) (fun c_32 => ?_) (fun c_32 => ?_)
    · have ei2 : 7 = i2 := by omega
      subst ei2
      exact ol_vretE hx hb hr hlocks ⟨rfl, rfl⟩ hP hD hS dX5_remember_53
    · refine lv_aload_n hx hb dX5_remember_35 rfl (lv_at hl 1 rfl) ?_
      refine va_get (D := G.1) (ci := 12) (v := .ref (ad 8)) (C := RX5) (T := TX5) (N := 15) hx hb hts in_X5 hown hE.1 hP 0 rfl rfl 7 (by decide) (hts _ q1142) (fun _ h9 => h9) rfl dX5_remember_36 ?_
      refine lv_iload_n hx hb dX5_remember_39 rfl (lv_at hl 0 rfl) ?_
      refine lv_aload_n hx hb dX5_remember_40 rfl (lv_at hl 1 rfl) ?_
      refine va_get (D := G.1) (ci := 12) (v := .ref (ad 5)) (C := RX5) (T := TX5) (N := 15) hx hb hts in_X5 hown hE.1 hP 0 rfl rfl 4 (by decide) (hts _ q1139) (fun _ h9 => h9) rfl dX5_remember_41 ?_
      refine lv_iload_n hx hb dX5_remember_44 rfl (lv_at hl 0 rfl) ?_
      refine ol_fald hx hb hE.1 hP 5 2 rfl rfl i2 (by omega) (by decide) dX5_remember_45 ?_
      refine ol_fast hx hb hE.1 hP hD hS 8 2 rfl rfl i2 (by omega) (by decide) dX5_remember_46 (fun H locs hP hD hS => ?_)
      replace hP : va_P G.1 cl0 (mW G ad iS iA iL iT iC iR r pr ar (mCp r br 592) f pf af (vf_upd (mCf f bf i2) i2 (f i2)) tx) H := hP
      replace hD : va_D (va_A (mW G ad iS iA iL iT iC iR r pr ar br f pf af bf tx) s.heap.size) (mW G ad iS iA iL iT iC iR r pr ar (mCp r br 592) f pf af (vf_upd (mCf f bf i2) i2 (f i2)) tx) := hD
      refine ol_iinc (k := 0) (lv' := [(1, .int (nI (i2 + 1))), (0, .ref (ad 0))]) hx hb 1 i2 dX5_remember_47 hl rfl (by decide) rfl (fun ls hl => ?_)
      refine lv_goto (tgt := 29) hx hb dX5_remember_50 (by decide) ?_
      refine ih2 H locs ls (by omega) ⟨?_, ?_, ?_, hS⟩
      · exact lv_sub hl [0, 1] rfl
      · exact hP
      · exact mD_any hD
  · refine lv_aload_n hx hb dX5_remember_9 rfl (lv_at hl 1 rfl) ?_
    refine va_get (D := G.1) (ci := 12) (v := .ref (ad 4)) (C := RX5) (T := TX5) (N := 15) hx hb hts in_X5 hown hE.1 hP 0 rfl rfl 3 (by decide) (hts _ q1138) (fun _ h9 => h9) rfl dX5_remember_10 ?_
    refine lv_iload_n hx hb dX5_remember_13 rfl (lv_at hl 0 rfl) ?_
    refine lv_aload_n hx hb dX5_remember_14 rfl (lv_at hl 1 rfl) ?_
    refine va_get (D := G.1) (ci := 12) (v := .ref (ad 1)) (C := RX5) (T := TX5) (N := 15) hx hb hts in_X5 hown hE.1 hP 0 rfl rfl 0 (by decide) (hts _ q1135) (fun _ h9 => h9) rfl dX5_remember_15 ?_
    refine lv_iload_n hx hb dX5_remember_18 rfl (lv_at hl 0 rfl) ?_
    refine ol_iald hx hb hE.1 hP 1 0 rfl rfl i1 (by omega) (by decide) dX5_remember_19 ?_
    refine ol_iast hx hb hE.1 hP hD hS 4 0 rfl rfl i1 (by omega) (by decide) dX5_remember_20 (fun H locs hP hD hS => ?_)
    replace hP : va_P G.1 cl0 (mW G ad iS iA iL iT iC iR r pr ar (upd (mCp r br i1) i1 (r i1)) f pf af bf tx) H := hP
    replace hD : va_D (va_A (mW G ad iS iA iL iT iC iR r pr ar br f pf af bf tx) s.heap.size) (mW G ad iS iA iL iT iC iR r pr ar (upd (mCp r br i1) i1 (r i1)) f pf af bf tx) := hD
    refine ol_iinc (k := 0) (lv' := [(1, .int (nI (i1 + 1))), (0, .ref (ad 0))]) hx hb 1 i1 dX5_remember_21 hl rfl (by decide) rfl (fun ls hl => ?_)
    refine lv_goto (tgt := 2) hx hb dX5_remember_24 (by decide) ?_
    refine ih1 H locs ls (by omega) ⟨?_, ?_, ?_, hS⟩
    · exact lv_sub hl [0, 1] rfl
    · exact hP
    · exact mD_any hD
set_option maxHeartbeats 4000000 in
set_option maxRecDepth 100000 in
theorem mm_goBack (l : Launch) (G : oG) (ad : Nat → Nat) (iS : Int32) (iA : Int32) (iL : Int32) (iT : Int32) (iC : Int32) (iR : Int32) (r : Nat → Int32) (pr : Nat → Int32) (ar : Nat → Int32) (br : Nat → Int32) (f : Nat → UInt32) (pf : Nat → UInt32) (af : Nat → UInt32) (bf : Nat → UInt32) (tx : Nat → Int32)    (sz : Nat) : Met l yX5_goBack (ws_ yX5_goBack cX5_goBack 2 none) ({ frames := 0, cells := 0, slots := 0, locals := 0 }) (oPc G [.ref (ad 0)] (oPE G (mW G ad iS iA iL iT iC iR r pr ar br f pf af bf tx) sz (fun _ => True))) (oE G (fun v_ W_ => v_ = none ∧ W_ = mW G ad iS iA iL iT iC iR (mCp br r 592) pr ar br (mCf bf f 7) pf af bf tx) (mW G ad iS iA iL iT iC iR r pr ar br f pf af bf tx) sz) 0 0 (va_A (mW G ad iS iA iL iT iC iR r pr ar br f pf af bf tx) sz) := by
  refine Met.ofW (cc := cX5_goBack) (maxL := 2) (ret := none) (by decide) rfl ?_
  intro p e s m args below meth c s₁ B hml hv
  obtain ⟨rfl, ⟨hsz, hP, hD0, hX⟩, hE⟩ := hv
  have hx := B.exec
  have hb := B.bytes
  have hr := B.returns
  have hts := atoms_spec (ws := ws_ yX5_goBack cX5_goBack 2 none) B.pre
  have hts : ∀ w ∈ lw_all, w.before _ s = true := fun w h => hts w (List.mem_cons_of_mem _ h)
  have hown : s.vm.findClass RX5 = some m.cls := findClass_of_methodNamed B.named
  have hlocks := B.notSynchronized
  subst hsz
  have hD := hD0.self (sz := s.heap.size)
  have hA : ∀ q : Nat, s.heap.size ≤ q → va_A (mW G ad iS iA iL iT iC iR r pr ar br f pf af bf tx) s.heap.size q := fun q h => Or.inr h
  have hl := lv_entry ([.ref (ad 0)]) (n := 2) (Nat.le_of_ble_eq_true rfl)
  rw [lg_entry_eq]
  generalize (lg_sl ([.ref (ad 0)]) ++ List.replicate (2 - (lg_sl ([.ref (ad 0)])).length) Slot.unset).toArray = ls at hl ⊢
  replace hl : lv_has ls 2 [(0, .ref (ad 0))] := hl
  refine ol_start (A := va_A (mW G ad iS iA iL iT iC iR r pr ar br f pf af bf tx) s.heap.size) (fun H locs hH hS => ?_)
  rw [← hH] at hP
  clear hH
  refine lv_iconst (v := 0) hx hb dX5_goBack_0 (by decide) ?_
  refine lv_istore_n (lv' := [(1, .int 0), (0, .ref (ad 0))]) hx hb dX5_goBack_1 rfl hl (by decide) rfl (fun ls hl => ?_)
  refine ol_for (P := fun i1 H locs ls => lv_has ls 2 [(1, .int (nI i1)), (0, .ref (ad 0))] ∧ va_P G.1 cl0 (mW G ad iS iA iL iT iC iR (mCp br r i1) pr ar br f pf af bf tx) H ∧ va_D (va_A (mW G ad iS iA iL iT iC iR r pr ar br f pf af bf tx) s.heap.size) (mW G ad iS iA iL iT iC iR (mCp br r i1) pr ar br f pf af bf tx) ∧ va_S (va_A (mW G ad iS iA iL iT iC iR r pr ar br f pf af bf tx) s.heap.size) s.heap H locs) (592) 0 (by omega) ⟨lv_sub hl [0, 1] rfl, hP, hD, hS⟩ (fun i1 H locs ls hi1 hI ih1 => ?_)
  obtain ⟨hl, hP, hD, hS⟩ := hI
  refine lv_iload_n hx hb dX5_goBack_2 rfl (lv_at hl 0 rfl) ?_
  refine lv_sipush (v := 592) hx hb dX5_goBack_3 (by decide) ?_
  refine ol_icmp_ge hx hb i1 592 (by omega) (by omega) (tgt := 27) dX5_goBack_6 (by decide) (fun c_6 => ?_) (fun c_6 => ?_)
  · have ei1 : 592 = i1 := by omega
    subst ei1
    refine lv_iconst (v := 0) hx hb dX5_goBack_27 (by decide) ?_
    refine lv_istore_n (lv' := [(1, .int 0), (0, .ref (ad 0))]) hx hb dX5_goBack_28 rfl hl (by decide) rfl (fun ls hl => ?_)
    refine ol_for (P := fun i2 H locs ls => lv_has ls 2 [(1, .int (nI i2)), (0, .ref (ad 0))] ∧ va_P G.1 cl0 (mW G ad iS iA iL iT iC iR (mCp br r 592) pr ar br (mCf bf f i2) pf af bf tx) H ∧ va_D (va_A (mW G ad iS iA iL iT iC iR r pr ar br f pf af bf tx) s.heap.size) (mW G ad iS iA iL iT iC iR (mCp br r 592) pr ar br (mCf bf f i2) pf af bf tx) ∧ va_S (va_A (mW G ad iS iA iL iT iC iR r pr ar br f pf af bf tx) s.heap.size) s.heap H locs) (7) 0 (by omega) ⟨lv_sub hl [0, 1] rfl, hP, hD, hS⟩ (fun i2 H locs ls hi2 hI ih2 => ?_)
    obtain ⟨hl, hP, hD, hS⟩ := hI
    refine lv_iload_n hx hb dX5_goBack_29 rfl (lv_at hl 0 rfl) ?_
    refine lv_bipush (v := 7) hx hb dX5_goBack_30 (by decide) ?_
    refine ol_icmp_ge hx hb i2 7 (by omega) (by omega) (tgt := 53) dX5_goBack_32 (by decide) (fun c_32 => ?_) (fun c_32 => ?_)
    · have ei2 : 7 = i2 := by omega
      subst ei2
      exact ol_vretE hx hb hr hlocks ⟨rfl, rfl⟩ hP hD hS dX5_goBack_53
    · refine lv_aload_n hx hb dX5_goBack_35 rfl (lv_at hl 1 rfl) ?_
      refine va_get (D := G.1) (ci := 12) (v := .ref (ad 5)) (C := RX5) (T := TX5) (N := 15) hx hb hts in_X5 hown hE.1 hP 0 rfl rfl 4 (by decide) (hts _ q1139) (fun _ h9 => h9) rfl dX5_goBack_36 ?_
      refine lv_iload_n hx hb dX5_goBack_39 rfl (lv_at hl 0 rfl) ?_
      refine lv_aload_n hx hb dX5_goBack_40 rfl (lv_at hl 1 rfl) ?_
      refine va_get (D := G.1) (ci := 12) (v := .ref (ad 8)) (C := RX5) (T := TX5) (N := 15) hx hb hts in_X5 hown hE.1 hP 0 rfl rfl 7 (by decide) (hts _ q1142) (fun _ h9 => h9) rfl dX5_goBack_41 ?_
      refine lv_iload_n hx hb dX5_goBack_44 rfl (lv_at hl 0 rfl) ?_
      refine ol_fald hx hb hE.1 hP 8 2 rfl rfl i2 (by omega) (by decide) dX5_goBack_45 ?_
      refine ol_fast hx hb hE.1 hP hD hS 5 2 rfl rfl i2 (by omega) (by decide) dX5_goBack_46 (fun H locs hP hD hS => ?_)
      replace hP : va_P G.1 cl0 (mW G ad iS iA iL iT iC iR (mCp br r 592) pr ar br (vf_upd (mCf bf f i2) i2 (bf i2)) pf af bf tx) H := hP
      replace hD : va_D (va_A (mW G ad iS iA iL iT iC iR r pr ar br f pf af bf tx) s.heap.size) (mW G ad iS iA iL iT iC iR (mCp br r 592) pr ar br (vf_upd (mCf bf f i2) i2 (bf i2)) pf af bf tx) := hD
      refine ol_iinc (k := 0) (lv' := [(1, .int (nI (i2 + 1))), (0, .ref (ad 0))]) hx hb 1 i2 dX5_goBack_47 hl rfl (by decide) rfl (fun ls hl => ?_)
      refine lv_goto (tgt := 29) hx hb dX5_goBack_50 (by decide) ?_
      refine ih2 H locs ls (by omega) ⟨?_, ?_, ?_, hS⟩
      · exact lv_sub hl [0, 1] rfl
      · exact hP
      · exact mD_any hD
  · refine lv_aload_n hx hb dX5_goBack_9 rfl (lv_at hl 1 rfl) ?_
    refine va_get (D := G.1) (ci := 12) (v := .ref (ad 1)) (C := RX5) (T := TX5) (N := 15) hx hb hts in_X5 hown hE.1 hP 0 rfl rfl 0 (by decide) (hts _ q1135) (fun _ h9 => h9) rfl dX5_goBack_10 ?_
    refine lv_iload_n hx hb dX5_goBack_13 rfl (lv_at hl 0 rfl) ?_
    refine lv_aload_n hx hb dX5_goBack_14 rfl (lv_at hl 1 rfl) ?_
    refine va_get (D := G.1) (ci := 12) (v := .ref (ad 4)) (C := RX5) (T := TX5) (N := 15) hx hb hts in_X5 hown hE.1 hP 0 rfl rfl 3 (by decide) (hts _ q1138) (fun _ h9 => h9) rfl dX5_goBack_15 ?_
    refine lv_iload_n hx hb dX5_goBack_18 rfl (lv_at hl 0 rfl) ?_
    refine ol_iald hx hb hE.1 hP 4 0 rfl rfl i1 (by omega) (by decide) dX5_goBack_19 ?_
    refine ol_iast hx hb hE.1 hP hD hS 1 0 rfl rfl i1 (by omega) (by decide) dX5_goBack_20 (fun H locs hP hD hS => ?_)
    replace hP : va_P G.1 cl0 (mW G ad iS iA iL iT iC iR (upd (mCp br r i1) i1 (br i1)) pr ar br f pf af bf tx) H := hP
    replace hD : va_D (va_A (mW G ad iS iA iL iT iC iR r pr ar br f pf af bf tx) s.heap.size) (mW G ad iS iA iL iT iC iR (upd (mCp br r i1) i1 (br i1)) pr ar br f pf af bf tx) := hD
    refine ol_iinc (k := 0) (lv' := [(1, .int (nI (i1 + 1))), (0, .ref (ad 0))]) hx hb 1 i1 dX5_goBack_21 hl rfl (by decide) rfl (fun ls hl => ?_)
    refine lv_goto (tgt := 2) hx hb dX5_goBack_24 (by decide) ?_
    refine ih1 H locs ls (by omega) ⟨?_, ?_, ?_, hS⟩
    · exact lv_sub hl [0, 1] rfl
    · exact hP
    · exact mD_any hD
set_option maxHeartbeats 4000000 in
set_option maxRecDepth 100000 in
theorem mm_keep (l : Launch) (G : oG) (ad : Nat → Nat) (iS : Int32) (iA : Int32) (iL : Int32) (iT : Int32) (iC : Int32) (iR : Int32) (r : Nat → Int32) (pr : Nat → Int32) (ar : Nat → Int32) (br : Nat → Int32) (f : Nat → UInt32) (pf : Nat → UInt32) (af : Nat → UInt32) (bf : Nat → UInt32) (tx : Nat → Int32)    (sz : Nat) : Met l yX5_keep (ws_ yX5_keep cX5_keep 2 (some .int)) ({ frames := 0, cells := 0, slots := 0, locals := 0 }) (oPc G [.ref (ad 0)] (oPE G (mW G ad iS iA iL iT iC iR r pr ar br f pf af bf tx) sz (fun _ => True))) (oE G (fun v_ W_ => v_ = some (.int (r 2)) ∧ W_ = mW G ad iS 1 iL iT iC iR r pr (mCp r ar 592) br f pf (mCf f af 7) bf tx) (mW G ad iS iA iL iT iC iR r pr ar br f pf af bf tx) sz) 0 0 (va_A (mW G ad iS iA iL iT iC iR r pr ar br f pf af bf tx) sz) := by
  refine Met.ofW (cc := cX5_keep) (maxL := 2) (ret := (some .int)) (by decide) rfl ?_
  intro p e s m args below meth c s₁ B hml hv
  obtain ⟨rfl, ⟨hsz, hP, hD0, hX⟩, hE⟩ := hv
  have hx := B.exec
  have hb := B.bytes
  have hr := B.returns
  have hts := atoms_spec (ws := ws_ yX5_keep cX5_keep 2 (some .int)) B.pre
  have hts : ∀ w ∈ lw_all, w.before _ s = true := fun w h => hts w (List.mem_cons_of_mem _ h)
  have hown : s.vm.findClass RX5 = some m.cls := findClass_of_methodNamed B.named
  have hlocks := B.notSynchronized
  subst hsz
  have hD := hD0.self (sz := s.heap.size)
  have hA : ∀ q : Nat, s.heap.size ≤ q → va_A (mW G ad iS iA iL iT iC iR r pr ar br f pf af bf tx) s.heap.size q := fun q h => Or.inr h
  have hl := lv_entry ([.ref (ad 0)]) (n := 2) (Nat.le_of_ble_eq_true rfl)
  rw [lg_entry_eq]
  generalize (lg_sl ([.ref (ad 0)]) ++ List.replicate (2 - (lg_sl ([.ref (ad 0)])).length) Slot.unset).toArray = ls at hl ⊢
  replace hl : lv_has ls 2 [(0, .ref (ad 0))] := hl
  refine ol_start (A := va_A (mW G ad iS iA iL iT iC iR r pr ar br f pf af bf tx) s.heap.size) (fun H locs hH hS => ?_)
  rw [← hH] at hP
  clear hH
  refine lv_iconst (v := 0) hx hb dX5_keep_0 (by decide) ?_
  refine lv_istore_n (lv' := [(1, .int 0), (0, .ref (ad 0))]) hx hb dX5_keep_1 rfl hl (by decide) rfl (fun ls hl => ?_)
  refine ol_for (P := fun i1 H locs ls => lv_has ls 2 [(1, .int (nI i1)), (0, .ref (ad 0))] ∧ va_P G.1 cl0 (mW G ad iS iA iL iT iC iR r pr (mCp r ar i1) br f pf af bf tx) H ∧ va_D (va_A (mW G ad iS iA iL iT iC iR r pr ar br f pf af bf tx) s.heap.size) (mW G ad iS iA iL iT iC iR r pr (mCp r ar i1) br f pf af bf tx) ∧ va_S (va_A (mW G ad iS iA iL iT iC iR r pr ar br f pf af bf tx) s.heap.size) s.heap H locs) (592) 0 (by omega) ⟨lv_sub hl [0, 1] rfl, hP, hD, hS⟩ (fun i1 H locs ls hi1 hI ih1 => ?_)
  obtain ⟨hl, hP, hD, hS⟩ := hI
  refine lv_iload_n hx hb dX5_keep_2 rfl (lv_at hl 0 rfl) ?_
  refine lv_sipush (v := 592) hx hb dX5_keep_3 (by decide) ?_
  refine ol_icmp_ge hx hb i1 592 (by omega) (by omega) (tgt := 27) dX5_keep_6 (by decide) (fun c_6 => ?_) (fun c_6 => ?_)
  · have ei1 : 592 = i1 := by omega
    subst ei1
    refine lv_iconst (v := 0) hx hb dX5_keep_27 (by decide) ?_
    refine lv_istore_n (lv' := [(1, .int 0), (0, .ref (ad 0))]) hx hb dX5_keep_28 rfl hl (by decide) rfl (fun ls hl => ?_)
    refine ol_for (P := fun i2 H locs ls => lv_has ls 2 [(1, .int (nI i2)), (0, .ref (ad 0))] ∧ va_P G.1 cl0 (mW G ad iS iA iL iT iC iR r pr (mCp r ar 592) br f pf (mCf f af i2) bf tx) H ∧ va_D (va_A (mW G ad iS iA iL iT iC iR r pr ar br f pf af bf tx) s.heap.size) (mW G ad iS iA iL iT iC iR r pr (mCp r ar 592) br f pf (mCf f af i2) bf tx) ∧ va_S (va_A (mW G ad iS iA iL iT iC iR r pr ar br f pf af bf tx) s.heap.size) s.heap H locs) (7) 0 (by omega) ⟨lv_sub hl [0, 1] rfl, hP, hD, hS⟩ (fun i2 H locs ls hi2 hI ih2 => ?_)
    obtain ⟨hl, hP, hD, hS⟩ := hI
    refine lv_iload_n hx hb dX5_keep_29 rfl (lv_at hl 0 rfl) ?_
    refine lv_bipush (v := 7) hx hb dX5_keep_30 (by decide) ?_
    refine ol_icmp_ge hx hb i2 7 (by omega) (by omega) (tgt := 53) dX5_keep_32 (by decide) (fun c_32 => ?_) (fun c_32 => ?_)
    · have ei2 : 7 = i2 := by omega
      subst ei2
      refine lv_aload_n hx hb dX5_keep_53 rfl (lv_at hl 1 rfl) ?_
      refine lv_iconst (v := 1) hx hb dX5_keep_54 (by decide) ?_
      refine va_put (D := G.1) (ci := 12) (v := .int 1) (ty := .boolean) (C := RX5) (T := TX5) (N := 15) hx hb hts in_X5 tyX5 tyX5_ok nmX5 hown hE.1 hP hD hS 0 rfl rfl 9 (by decide) (hts _ q1144) (fun _ h9 => h9) rfl (by decide +kernel) rfl rfl (Nat.le_of_ble_eq_true rfl) dX5_keep_55 (fun H locs hP hD hS => ?_)
      replace hP : va_P G.1 cl0 (mW G ad iS 1 iL iT iC iR r pr (mCp r ar 592) br f pf (mCf f af 7) bf tx) H := hP
      replace hD : va_D (va_A (mW G ad iS iA iL iT iC iR r pr ar br f pf af bf tx) s.heap.size) (mW G ad iS 1 iL iT iC iR r pr (mCp r ar 592) br f pf (mCf f af 7) bf tx) := hD
      refine lv_aload_n hx hb dX5_keep_58 rfl (lv_at hl 1 rfl) ?_
      refine va_get (D := G.1) (ci := 12) (v := .ref (ad 1)) (C := RX5) (T := TX5) (N := 15) hx hb hts in_X5 hown hE.1 hP 0 rfl rfl 0 (by decide) (hts _ q1135) (fun _ h9 => h9) rfl dX5_keep_59 ?_
      refine lv_iconst (v := 2) hx hb dX5_keep_62 (by decide) ?_
      refine ol_iald hx hb hE.1 hP 1 0 rfl rfl 2 (by decide) (by decide) dX5_keep_63 ?_
      exact ol_iretE hx hb hr hlocks ⟨congrArg (fun z => some (Value.int z)) rfl, rfl⟩ hP hD hS dX5_keep_64
    · refine lv_aload_n hx hb dX5_keep_35 rfl (lv_at hl 1 rfl) ?_
      refine va_get (D := G.1) (ci := 12) (v := .ref (ad 7)) (C := RX5) (T := TX5) (N := 15) hx hb hts in_X5 hown hE.1 hP 0 rfl rfl 6 (by decide) (hts _ q1141) (fun _ h9 => h9) rfl dX5_keep_36 ?_
      refine lv_iload_n hx hb dX5_keep_39 rfl (lv_at hl 0 rfl) ?_
      refine lv_aload_n hx hb dX5_keep_40 rfl (lv_at hl 1 rfl) ?_
      refine va_get (D := G.1) (ci := 12) (v := .ref (ad 5)) (C := RX5) (T := TX5) (N := 15) hx hb hts in_X5 hown hE.1 hP 0 rfl rfl 4 (by decide) (hts _ q1139) (fun _ h9 => h9) rfl dX5_keep_41 ?_
      refine lv_iload_n hx hb dX5_keep_44 rfl (lv_at hl 0 rfl) ?_
      refine ol_fald hx hb hE.1 hP 5 2 rfl rfl i2 (by omega) (by decide) dX5_keep_45 ?_
      refine ol_fast hx hb hE.1 hP hD hS 7 2 rfl rfl i2 (by omega) (by decide) dX5_keep_46 (fun H locs hP hD hS => ?_)
      replace hP : va_P G.1 cl0 (mW G ad iS iA iL iT iC iR r pr (mCp r ar 592) br f pf (vf_upd (mCf f af i2) i2 (f i2)) bf tx) H := hP
      replace hD : va_D (va_A (mW G ad iS iA iL iT iC iR r pr ar br f pf af bf tx) s.heap.size) (mW G ad iS iA iL iT iC iR r pr (mCp r ar 592) br f pf (vf_upd (mCf f af i2) i2 (f i2)) bf tx) := hD
      refine ol_iinc (k := 0) (lv' := [(1, .int (nI (i2 + 1))), (0, .ref (ad 0))]) hx hb 1 i2 dX5_keep_47 hl rfl (by decide) rfl (fun ls hl => ?_)
      refine lv_goto (tgt := 29) hx hb dX5_keep_50 (by decide) ?_
      refine ih2 H locs ls (by omega) ⟨?_, ?_, ?_, hS⟩
      · exact lv_sub hl [0, 1] rfl
      · exact hP
      · exact mD_any hD
  · refine lv_aload_n hx hb dX5_keep_9 rfl (lv_at hl 1 rfl) ?_
    refine va_get (D := G.1) (ci := 12) (v := .ref (ad 3)) (C := RX5) (T := TX5) (N := 15) hx hb hts in_X5 hown hE.1 hP 0 rfl rfl 2 (by decide) (hts _ q1137) (fun _ h9 => h9) rfl dX5_keep_10 ?_
    refine lv_iload_n hx hb dX5_keep_13 rfl (lv_at hl 0 rfl) ?_
    refine lv_aload_n hx hb dX5_keep_14 rfl (lv_at hl 1 rfl) ?_
    refine va_get (D := G.1) (ci := 12) (v := .ref (ad 1)) (C := RX5) (T := TX5) (N := 15) hx hb hts in_X5 hown hE.1 hP 0 rfl rfl 0 (by decide) (hts _ q1135) (fun _ h9 => h9) rfl dX5_keep_15 ?_
    refine lv_iload_n hx hb dX5_keep_18 rfl (lv_at hl 0 rfl) ?_
    refine ol_iald hx hb hE.1 hP 1 0 rfl rfl i1 (by omega) (by decide) dX5_keep_19 ?_
    refine ol_iast hx hb hE.1 hP hD hS 3 0 rfl rfl i1 (by omega) (by decide) dX5_keep_20 (fun H locs hP hD hS => ?_)
    replace hP : va_P G.1 cl0 (mW G ad iS iA iL iT iC iR r pr (upd (mCp r ar i1) i1 (r i1)) br f pf af bf tx) H := hP
    replace hD : va_D (va_A (mW G ad iS iA iL iT iC iR r pr ar br f pf af bf tx) s.heap.size) (mW G ad iS iA iL iT iC iR r pr (upd (mCp r ar i1) i1 (r i1)) br f pf af bf tx) := hD
    refine ol_iinc (k := 0) (lv' := [(1, .int (nI (i1 + 1))), (0, .ref (ad 0))]) hx hb 1 i1 dX5_keep_21 hl rfl (by decide) rfl (fun ls hl => ?_)
    refine lv_goto (tgt := 2) hx hb dX5_keep_24 (by decide) ?_
    refine ih1 H locs ls (by omega) ⟨?_, ?_, ?_, hS⟩
    · exact lv_sub hl [0, 1] rfl
    · exact hP
    · exact mD_any hD
set_option maxHeartbeats 4000000 in
set_option maxRecDepth 100000 in
theorem mm_record (l : Launch) (G : oG) (ad : Nat → Nat) (st : Nat) (iA : Int32) (iL : Int32) (iT : Int32) (iC : Int32) (iR : Int32) (r : Nat → Int32) (pr : Nat → Int32) (ar : Nat → Int32) (br : Nat → Int32) (f : Nat → UInt32) (pf : Nat → UInt32) (af : Nat → UInt32) (bf : Nat → UInt32) (tx : Nat → Int32)   (hst : st ≤ 4) (sz : Nat) : Met l yX5_record (ws_ yX5_record cX5_record 2 none) ({ frames := 0, cells := 0, slots := 0, locals := 0 }) (oPc G [.ref (ad 0)] (oPE G (mW G ad (nI st) iA iL iT iC iR r pr ar br f pf af bf tx) sz (fun _ => True))) (oE G (fun v_ W_ => v_ = none ∧ W_ = mW G ad (nI (mRecN st)) iA iL iT iC iR r (mRecP pr br st) ar br f (mRecF pf bf st) af bf tx) (mW G ad (nI st) iA iL iT iC iR r pr ar br f pf af bf tx) sz) 0 0 (va_A (mW G ad (nI st) iA iL iT iC iR r pr ar br f pf af bf tx) sz) := by
  refine Met.ofW (cc := cX5_record) (maxL := 2) (ret := none) (by decide) rfl ?_
  intro p e s m args below meth c s₁ B hml hv
  obtain ⟨rfl, ⟨hsz, hP, hD0, hX⟩, hE⟩ := hv
  have hx := B.exec
  have hb := B.bytes
  have hr := B.returns
  have hts := atoms_spec (ws := ws_ yX5_record cX5_record 2 none) B.pre
  have hts : ∀ w ∈ lw_all, w.before _ s = true := fun w h => hts w (List.mem_cons_of_mem _ h)
  have hown : s.vm.findClass RX5 = some m.cls := findClass_of_methodNamed B.named
  have hlocks := B.notSynchronized
  subst hsz
  have hD := hD0.self (sz := s.heap.size)
  have hA : ∀ q : Nat, s.heap.size ≤ q → va_A (mW G ad (nI st) iA iL iT iC iR r pr ar br f pf af bf tx) s.heap.size q := fun q h => Or.inr h
  have hl := lv_entry ([.ref (ad 0)]) (n := 2) (Nat.le_of_ble_eq_true rfl)
  rw [lg_entry_eq]
  generalize (lg_sl ([.ref (ad 0)]) ++ List.replicate (2 - (lg_sl ([.ref (ad 0)])).length) Slot.unset).toArray = ls at hl ⊢
  replace hl : lv_has ls 2 [(0, .ref (ad 0))] := hl
  refine ol_start (A := va_A (mW G ad (nI st) iA iL iT iC iR r pr ar br f pf af bf tx) s.heap.size) (fun H locs hH hS => ?_)
  rw [← hH] at hP
  clear hH
  refine lv_aload_n hx hb dX5_record_0 rfl (lv_at hl 0 rfl) ?_
  refine va_get (D := G.1) (ci := 12) (v := .int (nI st)) (C := RX5) (T := TX5) (N := 15) hx hb hts in_X5 hown hE.1 hP 0 rfl rfl 8 (by decide) (hts _ q1143) (fun _ h9 => h9) rfl dX5_record_1 ?_
  refine lv_iconst (v := 4) hx hb dX5_record_4 (by decide) ?_
  refine ol_icmp_ne hx hb st 4 (by omega) (by omega) (tgt := 78) dX5_record_5 (by decide) (fun c_5 => ?_) (fun c_5 => ?_)
  · refine lv_iconst (v := 0) hx hb dX5_record_78 (by decide) ?_
    refine lv_istore_n (lv' := [(1, .int 0), (0, .ref (ad 0))]) hx hb dX5_record_79 rfl hl (by decide) rfl (fun ls hl => ?_)
    refine ol_for (P := fun i3 H locs ls => lv_has ls 2 [(1, .int (nI i3)), (0, .ref (ad 0))] ∧ va_P G.1 cl0 (mW G ad (nI st) iA iL iT iC iR r (mCpT br pr (592 * st) i3) ar br f pf af bf tx) H ∧ va_D (va_A (mW G ad (nI st) iA iL iT iC iR r pr ar br f pf af bf tx) s.heap.size) (mW G ad (nI st) iA iL iT iC iR r (mCpT br pr (592 * st) i3) ar br f pf af bf tx) ∧ va_S (va_A (mW G ad (nI st) iA iL iT iC iR r pr ar br f pf af bf tx) s.heap.size) s.heap H locs) (592) 0 (by omega) ⟨lv_sub hl [0, 1] rfl, hP, hD, hS⟩ (fun i3 H locs ls hi3 hI ih3 => ?_)
    obtain ⟨hl, hP, hD, hS⟩ := hI
    refine lv_iload_n hx hb dX5_record_80 rfl (lv_at hl 0 rfl) ?_
    refine lv_sipush (v := 592) hx hb dX5_record_81 (by decide) ?_
    refine ol_icmp_ge hx hb i3 592 (by omega) (by omega) (tgt := 114) dX5_record_84 (by decide) (fun c_84 => ?_) (fun c_84 => ?_)
    · have ei3 : 592 = i3 := by omega
      subst ei3
      refine lv_iconst (v := 0) hx hb dX5_record_114 (by decide) ?_
      refine lv_istore_n (lv' := [(1, .int 0), (0, .ref (ad 0))]) hx hb dX5_record_115 rfl hl (by decide) rfl (fun ls hl => ?_)
      refine ol_for (P := fun i4 H locs ls => lv_has ls 2 [(1, .int (nI i4)), (0, .ref (ad 0))] ∧ va_P G.1 cl0 (mW G ad (nI st) iA iL iT iC iR r (mCpT br pr (592 * st) 592) ar br f (mCfT bf pf (7 * st) i4) af bf tx) H ∧ va_D (va_A (mW G ad (nI st) iA iL iT iC iR r pr ar br f pf af bf tx) s.heap.size) (mW G ad (nI st) iA iL iT iC iR r (mCpT br pr (592 * st) 592) ar br f (mCfT bf pf (7 * st) i4) af bf tx) ∧ va_S (va_A (mW G ad (nI st) iA iL iT iC iR r pr ar br f pf af bf tx) s.heap.size) s.heap H locs) (7) 0 (by omega) ⟨lv_sub hl [0, 1] rfl, hP, hD, hS⟩ (fun i4 H locs ls hi4 hI ih4 => ?_)
      obtain ⟨hl, hP, hD, hS⟩ := hI
      refine lv_iload_n hx hb dX5_record_116 rfl (lv_at hl 0 rfl) ?_
      refine lv_bipush (v := 7) hx hb dX5_record_117 (by decide) ?_
      refine ol_icmp_ge hx hb i4 7 (by omega) (by omega) (tgt := 148) dX5_record_119 (by decide) (fun c_119 => ?_) (fun c_119 => ?_)
      · have ei4 : 7 = i4 := by omega
        subst ei4
        refine lv_aload_n hx hb dX5_record_148 rfl (lv_at hl 1 rfl) ?_
        refine lv_dup hx hb dX5_record_149 rfl ?_
        refine va_get (D := G.1) (ci := 12) (v := .int (nI st)) (C := RX5) (T := TX5) (N := 15) hx hb hts in_X5 hown hE.1 hP 0 rfl rfl 8 (by decide) (hts _ q1143) (fun _ h9 => h9) rfl dX5_record_150 ?_
        refine lv_iconst (v := 1) hx hb dX5_record_153 (by decide) ?_
        refine ol_iadd hx hb st 1 dX5_record_154 ?_
        refine va_put (D := G.1) (ci := 12) (v := .int (nI (st + 1))) (ty := .int) (C := RX5) (T := TX5) (N := 15) hx hb hts in_X5 tyX5 tyX5_ok nmX5 hown hE.1 hP hD hS 0 rfl rfl 8 (by decide) (hts _ q1143) (fun _ h9 => h9) rfl (by decide +kernel) rfl rfl (Nat.le_of_ble_eq_true rfl) dX5_record_155 (fun H locs hP hD hS => ?_)
        replace hP : va_P G.1 cl0 (mW G ad (nI (st + 1)) iA iL iT iC iR r (mCpT br pr (592 * st) 592) ar br f (mCfT bf pf (7 * st) 7) af bf tx) H := hP
        replace hD : va_D (va_A (mW G ad (nI st) iA iL iT iC iR r pr ar br f pf af bf tx) s.heap.size) (mW G ad (nI (st + 1)) iA iL iT iC iR r (mCpT br pr (592 * st) 592) ar br f (mCfT bf pf (7 * st) 7) af bf tx) := hD
        exact ol_vretE hx hb hr hlocks ⟨rfl, (by simp [mRecP, mRecF, mRecN, zB, c_5, c_84, Nat.not_lt.mpr c_84, c_119, Nat.not_lt.mpr c_119])⟩ hP hD hS dX5_record_158
      · refine lv_aload_n hx hb dX5_record_122 rfl (lv_at hl 1 rfl) ?_
        refine va_get (D := G.1) (ci := 12) (v := .ref (ad 6)) (C := RX5) (T := TX5) (N := 15) hx hb hts in_X5 hown hE.1 hP 0 rfl rfl 5 (by decide) (hts _ q1140) (fun _ h9 => h9) rfl dX5_record_123 ?_
        refine lv_bipush (v := 7) hx hb dX5_record_126 (by decide) ?_
        refine lv_aload_n hx hb dX5_record_128 rfl (lv_at hl 1 rfl) ?_
        refine va_get (D := G.1) (ci := 12) (v := .int (nI st)) (C := RX5) (T := TX5) (N := 15) hx hb hts in_X5 hown hE.1 hP 0 rfl rfl 8 (by decide) (hts _ q1143) (fun _ h9 => h9) rfl dX5_record_129 ?_
        refine ol_imul hx hb 7 st dX5_record_132 ?_
        refine lv_iload_n hx hb dX5_record_133 rfl (lv_at hl 0 rfl) ?_
        refine ol_iadd hx hb (7 * st) i4 dX5_record_134 ?_
        refine lv_aload_n hx hb dX5_record_135 rfl (lv_at hl 1 rfl) ?_
        refine va_get (D := G.1) (ci := 12) (v := .ref (ad 8)) (C := RX5) (T := TX5) (N := 15) hx hb hts in_X5 hown hE.1 hP 0 rfl rfl 7 (by decide) (hts _ q1142) (fun _ h9 => h9) rfl dX5_record_136 ?_
        refine lv_iload_n hx hb dX5_record_139 rfl (lv_at hl 0 rfl) ?_
        refine ol_fald hx hb hE.1 hP 8 2 rfl rfl i4 (by omega) (by decide) dX5_record_140 ?_
        refine ol_fast hx hb hE.1 hP hD hS 6 2 rfl rfl (7 * st + i4) (by omega) (by decide) dX5_record_141 (fun H locs hP hD hS => ?_)
        replace hP : va_P G.1 cl0 (mW G ad (nI st) iA iL iT iC iR r (mCpT br pr (592 * st) 592) ar br f (vf_upd (mCfT bf pf (7 * st) i4) (7 * st + i4) (bf i4)) af bf tx) H := hP
        replace hD : va_D (va_A (mW G ad (nI st) iA iL iT iC iR r pr ar br f pf af bf tx) s.heap.size) (mW G ad (nI st) iA iL iT iC iR r (mCpT br pr (592 * st) 592) ar br f (vf_upd (mCfT bf pf (7 * st) i4) (7 * st + i4) (bf i4)) af bf tx) := hD
        refine ol_iinc (k := 0) (lv' := [(1, .int (nI (i4 + 1))), (0, .ref (ad 0))]) hx hb 1 i4 dX5_record_142 hl rfl (by decide) rfl (fun ls hl => ?_)
        refine lv_goto (tgt := 116) hx hb dX5_record_145 (by decide) ?_
        refine ih4 H locs ls (by omega) ⟨?_, ?_, ?_, hS⟩
        · exact lv_sub hl [0, 1] rfl
        · exact hP
        · exact mD_any hD
    · refine lv_aload_n hx hb dX5_record_87 rfl (lv_at hl 1 rfl) ?_
      refine va_get (D := G.1) (ci := 12) (v := .ref (ad 2)) (C := RX5) (T := TX5) (N := 15) hx hb hts in_X5 hown hE.1 hP 0 rfl rfl 1 (by decide) (hts _ q1136) (fun _ h9 => h9) rfl dX5_record_88 ?_
      refine lv_sipush (v := 592) hx hb dX5_record_91 (by decide) ?_
      refine lv_aload_n hx hb dX5_record_94 rfl (lv_at hl 1 rfl) ?_
      refine va_get (D := G.1) (ci := 12) (v := .int (nI st)) (C := RX5) (T := TX5) (N := 15) hx hb hts in_X5 hown hE.1 hP 0 rfl rfl 8 (by decide) (hts _ q1143) (fun _ h9 => h9) rfl dX5_record_95 ?_
      refine ol_imul hx hb 592 st dX5_record_98 ?_
      refine lv_iload_n hx hb dX5_record_99 rfl (lv_at hl 0 rfl) ?_
      refine ol_iadd hx hb (592 * st) i3 dX5_record_100 ?_
      refine lv_aload_n hx hb dX5_record_101 rfl (lv_at hl 1 rfl) ?_
      refine va_get (D := G.1) (ci := 12) (v := .ref (ad 4)) (C := RX5) (T := TX5) (N := 15) hx hb hts in_X5 hown hE.1 hP 0 rfl rfl 3 (by decide) (hts _ q1138) (fun _ h9 => h9) rfl dX5_record_102 ?_
      refine lv_iload_n hx hb dX5_record_105 rfl (lv_at hl 0 rfl) ?_
      refine ol_iald hx hb hE.1 hP 4 0 rfl rfl i3 (by omega) (by decide) dX5_record_106 ?_
      refine ol_iast hx hb hE.1 hP hD hS 2 0 rfl rfl (592 * st + i3) (by omega) (by decide) dX5_record_107 (fun H locs hP hD hS => ?_)
      replace hP : va_P G.1 cl0 (mW G ad (nI st) iA iL iT iC iR r (upd (mCpT br pr (592 * st) i3) (592 * st + i3) (br i3)) ar br f pf af bf tx) H := hP
      replace hD : va_D (va_A (mW G ad (nI st) iA iL iT iC iR r pr ar br f pf af bf tx) s.heap.size) (mW G ad (nI st) iA iL iT iC iR r (upd (mCpT br pr (592 * st) i3) (592 * st + i3) (br i3)) ar br f pf af bf tx) := hD
      refine ol_iinc (k := 0) (lv' := [(1, .int (nI (i3 + 1))), (0, .ref (ad 0))]) hx hb 1 i3 dX5_record_108 hl rfl (by decide) rfl (fun ls hl => ?_)
      refine lv_goto (tgt := 80) hx hb dX5_record_111 (by decide) ?_
      refine ih3 H locs ls (by omega) ⟨?_, ?_, ?_, hS⟩
      · exact lv_sub hl [0, 1] rfl
      · exact hP
      · exact mD_any hD
  · refine lv_iconst (v := 0) hx hb dX5_record_8 (by decide) ?_
    refine lv_istore_n (lv' := [(1, .int 0), (0, .ref (ad 0))]) hx hb dX5_record_9 rfl hl (by decide) rfl (fun ls hl => ?_)
    refine ol_for (P := fun i1 H locs ls => lv_has ls 2 [(1, .int (nI i1)), (0, .ref (ad 0))] ∧ va_P G.1 cl0 (mW G ad (nI st) iA iL iT iC iR r (mDn pr 592 i1) ar br f pf af bf tx) H ∧ va_D (va_A (mW G ad (nI st) iA iL iT iC iR r pr ar br f pf af bf tx) s.heap.size) (mW G ad (nI st) iA iL iT iC iR r (mDn pr 592 i1) ar br f pf af bf tx) ∧ va_S (va_A (mW G ad (nI st) iA iL iT iC iR r pr ar br f pf af bf tx) s.heap.size) s.heap H locs) (1776) 0 (by omega) ⟨lv_sub hl [0, 1] rfl, hP, hD, hS⟩ (fun i1 H locs ls hi1 hI ih1 => ?_)
    obtain ⟨hl, hP, hD, hS⟩ := hI
    refine lv_iload_n hx hb dX5_record_10 rfl (lv_at hl 0 rfl) ?_
    refine lv_sipush (v := 1776) hx hb dX5_record_11 (by decide) ?_
    refine ol_icmp_ge hx hb i1 1776 (by omega) (by omega) (tgt := 39) dX5_record_14 (by decide) (fun c_14 => ?_) (fun c_14 => ?_)
    · have ei1 : 1776 = i1 := by omega
      subst ei1
      refine lv_iconst (v := 0) hx hb dX5_record_39 (by decide) ?_
      refine lv_istore_n (lv' := [(1, .int 0), (0, .ref (ad 0))]) hx hb dX5_record_40 rfl hl (by decide) rfl (fun ls hl => ?_)
      refine ol_for (P := fun i2 H locs ls => lv_has ls 2 [(1, .int (nI i2)), (0, .ref (ad 0))] ∧ va_P G.1 cl0 (mW G ad (nI st) iA iL iT iC iR r (mDn pr 592 1776) ar br f (mDf pf 7 i2) af bf tx) H ∧ va_D (va_A (mW G ad (nI st) iA iL iT iC iR r pr ar br f pf af bf tx) s.heap.size) (mW G ad (nI st) iA iL iT iC iR r (mDn pr 592 1776) ar br f (mDf pf 7 i2) af bf tx) ∧ va_S (va_A (mW G ad (nI st) iA iL iT iC iR r pr ar br f pf af bf tx) s.heap.size) s.heap H locs) (21) 0 (by omega) ⟨lv_sub hl [0, 1] rfl, hP, hD, hS⟩ (fun i2 H locs ls hi2 hI ih2 => ?_)
      obtain ⟨hl, hP, hD, hS⟩ := hI
      refine lv_iload_n hx hb dX5_record_41 rfl (lv_at hl 0 rfl) ?_
      refine lv_bipush (v := 21) hx hb dX5_record_42 (by decide) ?_
      refine ol_icmp_ge hx hb i2 21 (by omega) (by omega) (tgt := 68) dX5_record_44 (by decide) (fun c_44 => ?_) (fun c_44 => ?_)
      · have ei2 : 21 = i2 := by omega
        subst ei2
        refine lv_aload_n hx hb dX5_record_68 rfl (lv_at hl 1 rfl) ?_
        refine lv_dup hx hb dX5_record_69 rfl ?_
        refine va_get (D := G.1) (ci := 12) (v := .int (nI st)) (C := RX5) (T := TX5) (N := 15) hx hb hts in_X5 hown hE.1 hP 0 rfl rfl 8 (by decide) (hts _ q1143) (fun _ h9 => h9) rfl dX5_record_70 ?_
        refine lv_iconst (v := 1) hx hb dX5_record_73 (by decide) ?_
        refine ol_isub hx hb st 1 (by omega) dX5_record_74 ?_
        refine va_put (D := G.1) (ci := 12) (v := .int (nI (st - 1))) (ty := .int) (C := RX5) (T := TX5) (N := 15) hx hb hts in_X5 tyX5 tyX5_ok nmX5 hown hE.1 hP hD hS 0 rfl rfl 8 (by decide) (hts _ q1143) (fun _ h9 => h9) rfl (by decide +kernel) rfl rfl (Nat.le_of_ble_eq_true rfl) dX5_record_75 (fun H locs hP hD hS => ?_)
        replace hP : va_P G.1 cl0 (mW G ad (nI (st - 1)) iA iL iT iC iR r (mDn pr 592 1776) ar br f (mDf pf 7 21) af bf tx) H := hP
        replace hD : va_D (va_A (mW G ad (nI st) iA iL iT iC iR r pr ar br f pf af bf tx) s.heap.size) (mW G ad (nI (st - 1)) iA iL iT iC iR r (mDn pr 592 1776) ar br f (mDf pf 7 21) af bf tx) := hD
        refine lv_iconst (v := 0) hx hb dX5_record_78 (by decide) ?_
        refine lv_istore_n (lv' := [(1, .int 0), (0, .ref (ad 0))]) hx hb dX5_record_79 rfl hl (by decide) rfl (fun ls hl => ?_)
        refine ol_for (P := fun i3 H locs ls => lv_has ls 2 [(1, .int (nI i3)), (0, .ref (ad 0))] ∧ va_P G.1 cl0 (mW G ad (nI (st - 1)) iA iL iT iC iR r (mCpT br (mDn pr 592 1776) (592 * (st - 1)) i3) ar br f (mDf pf 7 21) af bf tx) H ∧ va_D (va_A (mW G ad (nI st) iA iL iT iC iR r pr ar br f pf af bf tx) s.heap.size) (mW G ad (nI (st - 1)) iA iL iT iC iR r (mCpT br (mDn pr 592 1776) (592 * (st - 1)) i3) ar br f (mDf pf 7 21) af bf tx) ∧ va_S (va_A (mW G ad (nI st) iA iL iT iC iR r pr ar br f pf af bf tx) s.heap.size) s.heap H locs) (592) 0 (by omega) ⟨lv_sub hl [0, 1] rfl, hP, hD, hS⟩ (fun i3 H locs ls hi3 hI ih3 => ?_)
        obtain ⟨hl, hP, hD, hS⟩ := hI
        refine lv_iload_n hx hb dX5_record_80 rfl (lv_at hl 0 rfl) ?_
        refine lv_sipush (v := 592) hx hb dX5_record_81 (by decide) ?_
        refine ol_icmp_ge hx hb i3 592 (by omega) (by omega) (tgt := 114) dX5_record_84 (by decide) (fun c_84 => ?_) (fun c_84 => ?_)
        · have ei3 : 592 = i3 := by omega
          subst ei3
          refine lv_iconst (v := 0) hx hb dX5_record_114 (by decide) ?_
          refine lv_istore_n (lv' := [(1, .int 0), (0, .ref (ad 0))]) hx hb dX5_record_115 rfl hl (by decide) rfl (fun ls hl => ?_)
          refine ol_for (P := fun i4 H locs ls => lv_has ls 2 [(1, .int (nI i4)), (0, .ref (ad 0))] ∧ va_P G.1 cl0 (mW G ad (nI (st - 1)) iA iL iT iC iR r (mCpT br (mDn pr 592 1776) (592 * (st - 1)) 592) ar br f (mCfT bf (mDf pf 7 21) (7 * (st - 1)) i4) af bf tx) H ∧ va_D (va_A (mW G ad (nI st) iA iL iT iC iR r pr ar br f pf af bf tx) s.heap.size) (mW G ad (nI (st - 1)) iA iL iT iC iR r (mCpT br (mDn pr 592 1776) (592 * (st - 1)) 592) ar br f (mCfT bf (mDf pf 7 21) (7 * (st - 1)) i4) af bf tx) ∧ va_S (va_A (mW G ad (nI st) iA iL iT iC iR r pr ar br f pf af bf tx) s.heap.size) s.heap H locs) (7) 0 (by omega) ⟨lv_sub hl [0, 1] rfl, hP, hD, hS⟩ (fun i4 H locs ls hi4 hI ih4 => ?_)
          obtain ⟨hl, hP, hD, hS⟩ := hI
          refine lv_iload_n hx hb dX5_record_116 rfl (lv_at hl 0 rfl) ?_
          refine lv_bipush (v := 7) hx hb dX5_record_117 (by decide) ?_
          refine ol_icmp_ge hx hb i4 7 (by omega) (by omega) (tgt := 148) dX5_record_119 (by decide) (fun c_119 => ?_) (fun c_119 => ?_)
          · have ei4 : 7 = i4 := by omega
            subst ei4
            refine lv_aload_n hx hb dX5_record_148 rfl (lv_at hl 1 rfl) ?_
            refine lv_dup hx hb dX5_record_149 rfl ?_
            refine va_get (D := G.1) (ci := 12) (v := .int (nI (st - 1))) (C := RX5) (T := TX5) (N := 15) hx hb hts in_X5 hown hE.1 hP 0 rfl rfl 8 (by decide) (hts _ q1143) (fun _ h9 => h9) rfl dX5_record_150 ?_
            refine lv_iconst (v := 1) hx hb dX5_record_153 (by decide) ?_
            refine ol_iadd hx hb (st - 1) 1 dX5_record_154 ?_
            refine va_put (D := G.1) (ci := 12) (v := .int (nI (st - 1 + 1))) (ty := .int) (C := RX5) (T := TX5) (N := 15) hx hb hts in_X5 tyX5 tyX5_ok nmX5 hown hE.1 hP hD hS 0 rfl rfl 8 (by decide) (hts _ q1143) (fun _ h9 => h9) rfl (by decide +kernel) rfl rfl (Nat.le_of_ble_eq_true rfl) dX5_record_155 (fun H locs hP hD hS => ?_)
            replace hP : va_P G.1 cl0 (mW G ad (nI (st - 1 + 1)) iA iL iT iC iR r (mCpT br (mDn pr 592 1776) (592 * (st - 1)) 592) ar br f (mCfT bf (mDf pf 7 21) (7 * (st - 1)) 7) af bf tx) H := hP
            replace hD : va_D (va_A (mW G ad (nI st) iA iL iT iC iR r pr ar br f pf af bf tx) s.heap.size) (mW G ad (nI (st - 1 + 1)) iA iL iT iC iR r (mCpT br (mDn pr 592 1776) (592 * (st - 1)) 592) ar br f (mCfT bf (mDf pf 7 21) (7 * (st - 1)) 7) af bf tx) := hD
            exact ol_vretE hx hb hr hlocks ⟨rfl, (by simp [mRecP, mRecF, mRecN, zB, c_5, c_14, Nat.not_lt.mpr c_14, c_44, Nat.not_lt.mpr c_44, c_84, Nat.not_lt.mpr c_84, c_119, Nat.not_lt.mpr c_119])⟩ hP hD hS dX5_record_158
          · refine lv_aload_n hx hb dX5_record_122 rfl (lv_at hl 1 rfl) ?_
            refine va_get (D := G.1) (ci := 12) (v := .ref (ad 6)) (C := RX5) (T := TX5) (N := 15) hx hb hts in_X5 hown hE.1 hP 0 rfl rfl 5 (by decide) (hts _ q1140) (fun _ h9 => h9) rfl dX5_record_123 ?_
            refine lv_bipush (v := 7) hx hb dX5_record_126 (by decide) ?_
            refine lv_aload_n hx hb dX5_record_128 rfl (lv_at hl 1 rfl) ?_
            refine va_get (D := G.1) (ci := 12) (v := .int (nI (st - 1))) (C := RX5) (T := TX5) (N := 15) hx hb hts in_X5 hown hE.1 hP 0 rfl rfl 8 (by decide) (hts _ q1143) (fun _ h9 => h9) rfl dX5_record_129 ?_
            refine ol_imul hx hb 7 (st - 1) dX5_record_132 ?_
            refine lv_iload_n hx hb dX5_record_133 rfl (lv_at hl 0 rfl) ?_
            refine ol_iadd hx hb (7 * (st - 1)) i4 dX5_record_134 ?_
            refine lv_aload_n hx hb dX5_record_135 rfl (lv_at hl 1 rfl) ?_
            refine va_get (D := G.1) (ci := 12) (v := .ref (ad 8)) (C := RX5) (T := TX5) (N := 15) hx hb hts in_X5 hown hE.1 hP 0 rfl rfl 7 (by decide) (hts _ q1142) (fun _ h9 => h9) rfl dX5_record_136 ?_
            refine lv_iload_n hx hb dX5_record_139 rfl (lv_at hl 0 rfl) ?_
            refine ol_fald hx hb hE.1 hP 8 2 rfl rfl i4 (by omega) (by decide) dX5_record_140 ?_
            refine ol_fast hx hb hE.1 hP hD hS 6 2 rfl rfl (7 * (st - 1) + i4) (by omega) (by decide) dX5_record_141 (fun H locs hP hD hS => ?_)
            replace hP : va_P G.1 cl0 (mW G ad (nI (st - 1)) iA iL iT iC iR r (mCpT br (mDn pr 592 1776) (592 * (st - 1)) 592) ar br f (vf_upd (mCfT bf (mDf pf 7 21) (7 * (st - 1)) i4) (7 * (st - 1) + i4) (bf i4)) af bf tx) H := hP
            replace hD : va_D (va_A (mW G ad (nI st) iA iL iT iC iR r pr ar br f pf af bf tx) s.heap.size) (mW G ad (nI (st - 1)) iA iL iT iC iR r (mCpT br (mDn pr 592 1776) (592 * (st - 1)) 592) ar br f (vf_upd (mCfT bf (mDf pf 7 21) (7 * (st - 1)) i4) (7 * (st - 1) + i4) (bf i4)) af bf tx) := hD
            refine ol_iinc (k := 0) (lv' := [(1, .int (nI (i4 + 1))), (0, .ref (ad 0))]) hx hb 1 i4 dX5_record_142 hl rfl (by decide) rfl (fun ls hl => ?_)
            refine lv_goto (tgt := 116) hx hb dX5_record_145 (by decide) ?_
            refine ih4 H locs ls (by omega) ⟨?_, ?_, ?_, hS⟩
            · exact lv_sub hl [0, 1] rfl
            · exact hP
            · exact mD_any hD
        · refine lv_aload_n hx hb dX5_record_87 rfl (lv_at hl 1 rfl) ?_
          refine va_get (D := G.1) (ci := 12) (v := .ref (ad 2)) (C := RX5) (T := TX5) (N := 15) hx hb hts in_X5 hown hE.1 hP 0 rfl rfl 1 (by decide) (hts _ q1136) (fun _ h9 => h9) rfl dX5_record_88 ?_
          refine lv_sipush (v := 592) hx hb dX5_record_91 (by decide) ?_
          refine lv_aload_n hx hb dX5_record_94 rfl (lv_at hl 1 rfl) ?_
          refine va_get (D := G.1) (ci := 12) (v := .int (nI (st - 1))) (C := RX5) (T := TX5) (N := 15) hx hb hts in_X5 hown hE.1 hP 0 rfl rfl 8 (by decide) (hts _ q1143) (fun _ h9 => h9) rfl dX5_record_95 ?_
          refine ol_imul hx hb 592 (st - 1) dX5_record_98 ?_
          refine lv_iload_n hx hb dX5_record_99 rfl (lv_at hl 0 rfl) ?_
          refine ol_iadd hx hb (592 * (st - 1)) i3 dX5_record_100 ?_
          refine lv_aload_n hx hb dX5_record_101 rfl (lv_at hl 1 rfl) ?_
          refine va_get (D := G.1) (ci := 12) (v := .ref (ad 4)) (C := RX5) (T := TX5) (N := 15) hx hb hts in_X5 hown hE.1 hP 0 rfl rfl 3 (by decide) (hts _ q1138) (fun _ h9 => h9) rfl dX5_record_102 ?_
          refine lv_iload_n hx hb dX5_record_105 rfl (lv_at hl 0 rfl) ?_
          refine ol_iald hx hb hE.1 hP 4 0 rfl rfl i3 (by omega) (by decide) dX5_record_106 ?_
          refine ol_iast hx hb hE.1 hP hD hS 2 0 rfl rfl (592 * (st - 1) + i3) (by omega) (by decide) dX5_record_107 (fun H locs hP hD hS => ?_)
          replace hP : va_P G.1 cl0 (mW G ad (nI (st - 1)) iA iL iT iC iR r (upd (mCpT br (mDn pr 592 1776) (592 * (st - 1)) i3) (592 * (st - 1) + i3) (br i3)) ar br f (mDf pf 7 21) af bf tx) H := hP
          replace hD : va_D (va_A (mW G ad (nI st) iA iL iT iC iR r pr ar br f pf af bf tx) s.heap.size) (mW G ad (nI (st - 1)) iA iL iT iC iR r (upd (mCpT br (mDn pr 592 1776) (592 * (st - 1)) i3) (592 * (st - 1) + i3) (br i3)) ar br f (mDf pf 7 21) af bf tx) := hD
          refine ol_iinc (k := 0) (lv' := [(1, .int (nI (i3 + 1))), (0, .ref (ad 0))]) hx hb 1 i3 dX5_record_108 hl rfl (by decide) rfl (fun ls hl => ?_)
          refine lv_goto (tgt := 80) hx hb dX5_record_111 (by decide) ?_
          refine ih3 H locs ls (by omega) ⟨?_, ?_, ?_, hS⟩
          · exact lv_sub hl [0, 1] rfl
          · exact hP
          · exact mD_any hD
      · refine lv_aload_n hx hb dX5_record_47 rfl (lv_at hl 1 rfl) ?_
        refine va_get (D := G.1) (ci := 12) (v := .ref (ad 6)) (C := RX5) (T := TX5) (N := 15) hx hb hts in_X5 hown hE.1 hP 0 rfl rfl 5 (by decide) (hts _ q1140) (fun _ h9 => h9) rfl dX5_record_48 ?_
        refine lv_iload_n hx hb dX5_record_51 rfl (lv_at hl 0 rfl) ?_
        refine lv_aload_n hx hb dX5_record_52 rfl (lv_at hl 1 rfl) ?_
        refine va_get (D := G.1) (ci := 12) (v := .ref (ad 6)) (C := RX5) (T := TX5) (N := 15) hx hb hts in_X5 hown hE.1 hP 0 rfl rfl 5 (by decide) (hts _ q1140) (fun _ h9 => h9) rfl dX5_record_53 ?_
        refine lv_bipush (v := 7) hx hb dX5_record_56 (by decide) ?_
        refine lv_iload_n hx hb dX5_record_58 rfl (lv_at hl 0 rfl) ?_
        refine ol_iadd hx hb 7 i2 dX5_record_59 ?_
        refine ol_fald hx hb hE.1 hP 6 2 rfl rfl (7 + i2) (by omega) (by decide) dX5_record_60 ?_
        refine ol_fast hx hb hE.1 hP hD hS 6 2 rfl rfl i2 (by omega) (by decide) dX5_record_61 (fun H locs hP hD hS => ?_)
        replace hP : va_P G.1 cl0 (mW G ad (nI st) iA iL iT iC iR r (mDn pr 592 1776) ar br f (vf_upd (mDf pf 7 i2) i2 ((mDf pf 7 i2) (7 + i2))) af bf tx) H := hP
        replace hD : va_D (va_A (mW G ad (nI st) iA iL iT iC iR r pr ar br f pf af bf tx) s.heap.size) (mW G ad (nI st) iA iL iT iC iR r (mDn pr 592 1776) ar br f (vf_upd (mDf pf 7 i2) i2 ((mDf pf 7 i2) (7 + i2))) af bf tx) := hD
        refine ol_iinc (k := 0) (lv' := [(1, .int (nI (i2 + 1))), (0, .ref (ad 0))]) hx hb 1 i2 dX5_record_62 hl rfl (by decide) rfl (fun ls hl => ?_)
        refine lv_goto (tgt := 41) hx hb dX5_record_65 (by decide) ?_
        refine ih2 H locs ls (by omega) ⟨?_, ?_, ?_, hS⟩
        · exact lv_sub hl [0, 1] rfl
        · exact hP
        · exact mD_any hD
    · refine lv_aload_n hx hb dX5_record_17 rfl (lv_at hl 1 rfl) ?_
      refine va_get (D := G.1) (ci := 12) (v := .ref (ad 2)) (C := RX5) (T := TX5) (N := 15) hx hb hts in_X5 hown hE.1 hP 0 rfl rfl 1 (by decide) (hts _ q1136) (fun _ h9 => h9) rfl dX5_record_18 ?_
      refine lv_iload_n hx hb dX5_record_21 rfl (lv_at hl 0 rfl) ?_
      refine lv_aload_n hx hb dX5_record_22 rfl (lv_at hl 1 rfl) ?_
      refine va_get (D := G.1) (ci := 12) (v := .ref (ad 2)) (C := RX5) (T := TX5) (N := 15) hx hb hts in_X5 hown hE.1 hP 0 rfl rfl 1 (by decide) (hts _ q1136) (fun _ h9 => h9) rfl dX5_record_23 ?_
      refine lv_sipush (v := 592) hx hb dX5_record_26 (by decide) ?_
      refine lv_iload_n hx hb dX5_record_29 rfl (lv_at hl 0 rfl) ?_
      refine ol_iadd hx hb 592 i1 dX5_record_30 ?_
      refine ol_iald hx hb hE.1 hP 2 0 rfl rfl (592 + i1) (by omega) (by decide) dX5_record_31 ?_
      refine ol_iast hx hb hE.1 hP hD hS 2 0 rfl rfl i1 (by omega) (by decide) dX5_record_32 (fun H locs hP hD hS => ?_)
      replace hP : va_P G.1 cl0 (mW G ad (nI st) iA iL iT iC iR r (upd (mDn pr 592 i1) i1 ((mDn pr 592 i1) (592 + i1))) ar br f pf af bf tx) H := hP
      replace hD : va_D (va_A (mW G ad (nI st) iA iL iT iC iR r pr ar br f pf af bf tx) s.heap.size) (mW G ad (nI st) iA iL iT iC iR r (upd (mDn pr 592 i1) i1 ((mDn pr 592 i1) (592 + i1))) ar br f pf af bf tx) := hD
      refine ol_iinc (k := 0) (lv' := [(1, .int (nI (i1 + 1))), (0, .ref (ad 0))]) hx hb 1 i1 dX5_record_33 hl rfl (by decide) rfl (fun ls hl => ?_)
      refine lv_goto (tgt := 10) hx hb dX5_record_36 (by decide) ?_
      refine ih1 H locs ls (by omega) ⟨?_, ?_, ?_, hS⟩
      · exact lv_sub hl [0, 1] rfl
      · exact hP
      · exact mD_any hD
set_option maxHeartbeats 4000000 in
set_option maxRecDepth 100000 in
theorem mm_begin (l : Launch) (G : oG) (ad : Nat → Nat) (st : Nat) (iA : Int32) (iL : Int32) (iT : Int32) (iC : Int32) (iR : Int32) (r : Nat → Int32) (pr : Nat → Int32) (ar : Nat → Int32) (br : Nat → Int32) (f : Nat → UInt32) (pf : Nat → UInt32) (af : Nat → UInt32) (bf : Nat → UInt32) (tx : Nat → Int32)   (hst : st ≤ 4) (sz : Nat) : Met l yX5_begin (ws_ yX5_begin cX5_begin 1 none) ({ frames := 1, cells := 0, slots := 0, locals := 21 }) (oPc G [.ref (ad 0)] (oPE G (mW G ad (nI st) iA iL iT iC iR r pr ar br f pf af bf tx) sz (fun _ => True))) (oE G (fun v_ W_ => v_ = none ∧ W_ = mW G ad (nI (mRecN st)) iA iL iT iC iR r (mRecP pr (mCp r br 592) st) ar (mCp r br 592) f (mRecF pf (mCf f bf 7) st) af (mCf f bf 7) tx) (mW G ad (nI st) iA iL iT iC iR r pr ar br f pf af bf tx) sz) 0 0 (va_A (mW G ad (nI st) iA iL iT iC iR r pr ar br f pf af bf tx) sz) := by
  refine Met.ofW (cc := cX5_begin) (maxL := 1) (ret := none) (by decide) rfl ?_
  intro p e s m args below meth c s₁ B hml hv
  obtain ⟨rfl, ⟨hsz, hP, hD0, hX⟩, hE⟩ := hv
  have hx := B.exec
  have hb := B.bytes
  have hr := B.returns
  have hts := atoms_spec (ws := ws_ yX5_begin cX5_begin 1 none) B.pre
  have hts : ∀ w ∈ lw_all, w.before _ s = true := fun w h => hts w (List.mem_cons_of_mem _ h)
  have hown : s.vm.findClass RX5 = some m.cls := findClass_of_methodNamed B.named
  have hlocks := B.notSynchronized
  subst hsz
  have hD := hD0.self (sz := s.heap.size)
  have hA : ∀ q : Nat, s.heap.size ≤ q → va_A (mW G ad (nI st) iA iL iT iC iR r pr ar br f pf af bf tx) s.heap.size q := fun q h => Or.inr h
  have hl := lv_entry ([.ref (ad 0)]) (n := 1) (Nat.le_of_ble_eq_true rfl)
  rw [lg_entry_eq]
  generalize (lg_sl ([.ref (ad 0)]) ++ List.replicate (1 - (lg_sl ([.ref (ad 0)])).length) Slot.unset).toArray = ls at hl ⊢
  replace hl : lv_has ls 1 [(0, .ref (ad 0))] := hl
  refine ol_start (A := va_A (mW G ad (nI st) iA iL iT iC iR r pr ar br f pf af bf tx) s.heap.size) (fun H locs hH hS => ?_)
  rw [← hH] at hP
  clear hH
  refine lv_aload_n hx hb dX5_begin_0 rfl (lv_at hl 0 rfl) ?_
  refine ol_cM (st1 := []) (va_runV (As := []) (rest := []) ⟨hx, hb, hml, hown, hts⟩ (mm_remember l G ad (nI st) iA iL iT iC iR r pr ar br f pf af bf tx H.size) (cwV 0 hts (lw_V q1198 q1200 qs23 q73 q1201) rfl rfl rfl (by decide +kernel) ⟨Nat.le_of_ble_eq_true rfl, Nat.le_of_ble_eq_true rfl⟩) (oPc.preV hE (hE.recv (ci := 12) (hP 0 _ rfl) rfl) ⟨rfl, hP, oD_weak hD (fun _ _ => trivial), trivial⟩) rfl rfl hl.1 rfl (lv_room (Nat.le_of_ble_eq_true rfl)) dX5_begin_1 ⟨Nat.le_of_ble_eq_true rfl, Nat.le_of_ble_eq_true rfl⟩) hP hD hS hA rfl (fun H locs hP hD hS => ?_)
  refine lv_aload_n hx hb dX5_begin_4 rfl (lv_at hl 0 rfl) ?_
  refine ol_cM (st1 := []) (va_runV (As := []) (rest := []) ⟨hx, hb, hml, hown, hts⟩ (mm_record l G ad st iA iL iT iC iR r pr ar (mCp r br 592) f pf af (mCf f bf 7) tx (by omega) H.size) (cwV 0 hts (lw_V q1202 q1204 qs24 q73 q1205) rfl rfl rfl (by decide +kernel) ⟨Nat.le_of_ble_eq_true rfl, Nat.le_of_ble_eq_true rfl⟩) (oPc.preV hE (hE.recv (ci := 12) (hP 0 _ rfl) rfl) ⟨rfl, hP, oD_weak hD (fun _ _ => trivial), trivial⟩) rfl rfl hl.1 rfl (lv_room (Nat.le_of_ble_eq_true rfl)) dX5_begin_5 ⟨Nat.le_of_ble_eq_true rfl, Nat.le_of_ble_eq_true rfl⟩) hP hD hS hA rfl (fun H locs hP hD hS => ?_)
  exact ol_vretE hx hb hr hlocks ⟨rfl, rfl⟩ hP hD hS dX5_begin_8
set_option maxHeartbeats 4000000 in
set_option maxRecDepth 100000 in
theorem mm_undo (l : Launch) (G : oG) (ad : Nat → Nat) (st : Nat) (iA : Int32) (iL : Int32) (iT : Int32) (iC : Int32) (iR : Int32) (r : Nat → Int32) (pr : Nat → Int32) (ar : Nat → Int32) (br : Nat → Int32) (f : Nat → UInt32) (pf : Nat → UInt32) (af : Nat → UInt32) (bf : Nat → UInt32) (tx : Nat → Int32)   (hst : st ≤ 4) (sz : Nat) : Met l yX5_undo (ws_ yX5_undo cX5_undo 2 (some .int)) ({ frames := 0, cells := 0, slots := 0, locals := 0 }) (oPc G [.ref (ad 0)] (oPE G (mW G ad (nI st) iA iL iT iC iR r pr ar br f pf af bf tx) sz (fun _ => True))) (oE G (fun v_ W_ => v_ = some (.int (mUndoR st)) ∧ W_ = mW G ad (nI (st - 1)) iA iL iT iC iR (mUndoP pr r st) pr ar br (mUndoF pf f st) pf af bf tx) (mW G ad (nI st) iA iL iT iC iR r pr ar br f pf af bf tx) sz) 0 0 (va_A (mW G ad (nI st) iA iL iT iC iR r pr ar br f pf af bf tx) sz) := by
  refine Met.ofW (cc := cX5_undo) (maxL := 2) (ret := (some .int)) (by decide) rfl ?_
  intro p e s m args below meth c s₁ B hml hv
  obtain ⟨rfl, ⟨hsz, hP, hD0, hX⟩, hE⟩ := hv
  have hx := B.exec
  have hb := B.bytes
  have hr := B.returns
  have hts := atoms_spec (ws := ws_ yX5_undo cX5_undo 2 (some .int)) B.pre
  have hts : ∀ w ∈ lw_all, w.before _ s = true := fun w h => hts w (List.mem_cons_of_mem _ h)
  have hown : s.vm.findClass RX5 = some m.cls := findClass_of_methodNamed B.named
  have hlocks := B.notSynchronized
  subst hsz
  have hD := hD0.self (sz := s.heap.size)
  have hA : ∀ q : Nat, s.heap.size ≤ q → va_A (mW G ad (nI st) iA iL iT iC iR r pr ar br f pf af bf tx) s.heap.size q := fun q h => Or.inr h
  have hl := lv_entry ([.ref (ad 0)]) (n := 2) (Nat.le_of_ble_eq_true rfl)
  rw [lg_entry_eq]
  generalize (lg_sl ([.ref (ad 0)]) ++ List.replicate (2 - (lg_sl ([.ref (ad 0)])).length) Slot.unset).toArray = ls at hl ⊢
  replace hl : lv_has ls 2 [(0, .ref (ad 0))] := hl
  refine ol_start (A := va_A (mW G ad (nI st) iA iL iT iC iR r pr ar br f pf af bf tx) s.heap.size) (fun H locs hH hS => ?_)
  rw [← hH] at hP
  clear hH
  refine lv_aload_n hx hb dX5_undo_0 rfl (lv_at hl 0 rfl) ?_
  refine va_get (D := G.1) (ci := 12) (v := .int (nI st)) (C := RX5) (T := TX5) (N := 15) hx hb hts in_X5 hown hE.1 hP 0 rfl rfl 8 (by decide) (hts _ q1143) (fun _ h9 => h9) rfl dX5_undo_1 ?_
  refine ol_if_ne hx hb st (by omega) (tgt := 10) dX5_undo_4 (by decide) (fun c_4 => ?_) (fun c_4 => ?_)
  · refine lv_aload_n hx hb dX5_undo_10 rfl (lv_at hl 0 rfl) ?_
    refine lv_dup hx hb dX5_undo_11 rfl ?_
    refine va_get (D := G.1) (ci := 12) (v := .int (nI st)) (C := RX5) (T := TX5) (N := 15) hx hb hts in_X5 hown hE.1 hP 0 rfl rfl 8 (by decide) (hts _ q1143) (fun _ h9 => h9) rfl dX5_undo_12 ?_
    refine lv_iconst (v := 1) hx hb dX5_undo_15 (by decide) ?_
    refine ol_isub hx hb st 1 (by omega) dX5_undo_16 ?_
    refine va_put (D := G.1) (ci := 12) (v := .int (nI (st - 1))) (ty := .int) (C := RX5) (T := TX5) (N := 15) hx hb hts in_X5 tyX5 tyX5_ok nmX5 hown hE.1 hP hD hS 0 rfl rfl 8 (by decide) (hts _ q1143) (fun _ h9 => h9) rfl (by decide +kernel) rfl rfl (Nat.le_of_ble_eq_true rfl) dX5_undo_17 (fun H locs hP hD hS => ?_)
    replace hP : va_P G.1 cl0 (mW G ad (nI (st - 1)) iA iL iT iC iR r pr ar br f pf af bf tx) H := hP
    replace hD : va_D (va_A (mW G ad (nI st) iA iL iT iC iR r pr ar br f pf af bf tx) s.heap.size) (mW G ad (nI (st - 1)) iA iL iT iC iR r pr ar br f pf af bf tx) := hD
    refine lv_iconst (v := 0) hx hb dX5_undo_20 (by decide) ?_
    refine lv_istore_n (lv' := [(1, .int 0), (0, .ref (ad 0))]) hx hb dX5_undo_21 rfl hl (by decide) rfl (fun ls hl => ?_)
    refine ol_for (P := fun i1 H locs ls => lv_has ls 2 [(1, .int (nI i1)), (0, .ref (ad 0))] ∧ va_P G.1 cl0 (mW G ad (nI (st - 1)) iA iL iT iC iR (mCpF pr r (592 * (st - 1)) i1) pr ar br f pf af bf tx) H ∧ va_D (va_A (mW G ad (nI st) iA iL iT iC iR r pr ar br f pf af bf tx) s.heap.size) (mW G ad (nI (st - 1)) iA iL iT iC iR (mCpF pr r (592 * (st - 1)) i1) pr ar br f pf af bf tx) ∧ va_S (va_A (mW G ad (nI st) iA iL iT iC iR r pr ar br f pf af bf tx) s.heap.size) s.heap H locs) (592) 0 (by omega) ⟨lv_sub hl [0, 1] rfl, hP, hD, hS⟩ (fun i1 H locs ls hi1 hI ih1 => ?_)
    obtain ⟨hl, hP, hD, hS⟩ := hI
    refine lv_iload_n hx hb dX5_undo_22 rfl (lv_at hl 0 rfl) ?_
    refine lv_sipush (v := 592) hx hb dX5_undo_23 (by decide) ?_
    refine ol_icmp_ge hx hb i1 592 (by omega) (by omega) (tgt := 56) dX5_undo_26 (by decide) (fun c_26 => ?_) (fun c_26 => ?_)
    · have ei1 : 592 = i1 := by omega
      subst ei1
      refine lv_iconst (v := 0) hx hb dX5_undo_56 (by decide) ?_
      refine lv_istore_n (lv' := [(1, .int 0), (0, .ref (ad 0))]) hx hb dX5_undo_57 rfl hl (by decide) rfl (fun ls hl => ?_)
      refine ol_for (P := fun i2 H locs ls => lv_has ls 2 [(1, .int (nI i2)), (0, .ref (ad 0))] ∧ va_P G.1 cl0 (mW G ad (nI (st - 1)) iA iL iT iC iR (mCpF pr r (592 * (st - 1)) 592) pr ar br (mCfF pf f (7 * (st - 1)) i2) pf af bf tx) H ∧ va_D (va_A (mW G ad (nI st) iA iL iT iC iR r pr ar br f pf af bf tx) s.heap.size) (mW G ad (nI (st - 1)) iA iL iT iC iR (mCpF pr r (592 * (st - 1)) 592) pr ar br (mCfF pf f (7 * (st - 1)) i2) pf af bf tx) ∧ va_S (va_A (mW G ad (nI st) iA iL iT iC iR r pr ar br f pf af bf tx) s.heap.size) s.heap H locs) (7) 0 (by omega) ⟨lv_sub hl [0, 1] rfl, hP, hD, hS⟩ (fun i2 H locs ls hi2 hI ih2 => ?_)
      obtain ⟨hl, hP, hD, hS⟩ := hI
      refine lv_iload_n hx hb dX5_undo_58 rfl (lv_at hl 0 rfl) ?_
      refine lv_bipush (v := 7) hx hb dX5_undo_59 (by decide) ?_
      refine ol_icmp_ge hx hb i2 7 (by omega) (by omega) (tgt := 90) dX5_undo_61 (by decide) (fun c_61 => ?_) (fun c_61 => ?_)
      · have ei2 : 7 = i2 := by omega
        subst ei2
        refine lv_aload_n hx hb dX5_undo_90 rfl (lv_at hl 1 rfl) ?_
        refine va_get (D := G.1) (ci := 12) (v := .int (nI (st - 1))) (C := RX5) (T := TX5) (N := 15) hx hb hts in_X5 hown hE.1 hP 0 rfl rfl 8 (by decide) (hts _ q1143) (fun _ h9 => h9) rfl dX5_undo_91 ?_
        exact ol_iretE hx hb hr hlocks ⟨congrArg (fun z => some (Value.int z)) (by simp [mUndoR, mUndoP, mUndoF, zB, c_4, c_26, Nat.not_lt.mpr c_26, c_61, Nat.not_lt.mpr c_61]), (by simp [mUndoR, mUndoP, mUndoF, zB, c_4, c_26, Nat.not_lt.mpr c_26, c_61, Nat.not_lt.mpr c_61])⟩ hP hD hS dX5_undo_94
      · refine lv_aload_n hx hb dX5_undo_64 rfl (lv_at hl 1 rfl) ?_
        refine va_get (D := G.1) (ci := 12) (v := .ref (ad 5)) (C := RX5) (T := TX5) (N := 15) hx hb hts in_X5 hown hE.1 hP 0 rfl rfl 4 (by decide) (hts _ q1139) (fun _ h9 => h9) rfl dX5_undo_65 ?_
        refine lv_iload_n hx hb dX5_undo_68 rfl (lv_at hl 0 rfl) ?_
        refine lv_aload_n hx hb dX5_undo_69 rfl (lv_at hl 1 rfl) ?_
        refine va_get (D := G.1) (ci := 12) (v := .ref (ad 6)) (C := RX5) (T := TX5) (N := 15) hx hb hts in_X5 hown hE.1 hP 0 rfl rfl 5 (by decide) (hts _ q1140) (fun _ h9 => h9) rfl dX5_undo_70 ?_
        refine lv_bipush (v := 7) hx hb dX5_undo_73 (by decide) ?_
        refine lv_aload_n hx hb dX5_undo_75 rfl (lv_at hl 1 rfl) ?_
        refine va_get (D := G.1) (ci := 12) (v := .int (nI (st - 1))) (C := RX5) (T := TX5) (N := 15) hx hb hts in_X5 hown hE.1 hP 0 rfl rfl 8 (by decide) (hts _ q1143) (fun _ h9 => h9) rfl dX5_undo_76 ?_
        refine ol_imul hx hb 7 (st - 1) dX5_undo_79 ?_
        refine lv_iload_n hx hb dX5_undo_80 rfl (lv_at hl 0 rfl) ?_
        refine ol_iadd hx hb (7 * (st - 1)) i2 dX5_undo_81 ?_
        refine ol_fald hx hb hE.1 hP 6 2 rfl rfl (7 * (st - 1) + i2) (by omega) (by decide) dX5_undo_82 ?_
        refine ol_fast hx hb hE.1 hP hD hS 5 2 rfl rfl i2 (by omega) (by decide) dX5_undo_83 (fun H locs hP hD hS => ?_)
        replace hP : va_P G.1 cl0 (mW G ad (nI (st - 1)) iA iL iT iC iR (mCpF pr r (592 * (st - 1)) 592) pr ar br (vf_upd (mCfF pf f (7 * (st - 1)) i2) i2 (pf (7 * (st - 1) + i2))) pf af bf tx) H := hP
        replace hD : va_D (va_A (mW G ad (nI st) iA iL iT iC iR r pr ar br f pf af bf tx) s.heap.size) (mW G ad (nI (st - 1)) iA iL iT iC iR (mCpF pr r (592 * (st - 1)) 592) pr ar br (vf_upd (mCfF pf f (7 * (st - 1)) i2) i2 (pf (7 * (st - 1) + i2))) pf af bf tx) := hD
        refine ol_iinc (k := 0) (lv' := [(1, .int (nI (i2 + 1))), (0, .ref (ad 0))]) hx hb 1 i2 dX5_undo_84 hl rfl (by decide) rfl (fun ls hl => ?_)
        refine lv_goto (tgt := 58) hx hb dX5_undo_87 (by decide) ?_
        refine ih2 H locs ls (by omega) ⟨?_, ?_, ?_, hS⟩
        · exact lv_sub hl [0, 1] rfl
        · exact hP
        · exact mD_any hD
    · refine lv_aload_n hx hb dX5_undo_29 rfl (lv_at hl 1 rfl) ?_
      refine va_get (D := G.1) (ci := 12) (v := .ref (ad 1)) (C := RX5) (T := TX5) (N := 15) hx hb hts in_X5 hown hE.1 hP 0 rfl rfl 0 (by decide) (hts _ q1135) (fun _ h9 => h9) rfl dX5_undo_30 ?_
      refine lv_iload_n hx hb dX5_undo_33 rfl (lv_at hl 0 rfl) ?_
      refine lv_aload_n hx hb dX5_undo_34 rfl (lv_at hl 1 rfl) ?_
      refine va_get (D := G.1) (ci := 12) (v := .ref (ad 2)) (C := RX5) (T := TX5) (N := 15) hx hb hts in_X5 hown hE.1 hP 0 rfl rfl 1 (by decide) (hts _ q1136) (fun _ h9 => h9) rfl dX5_undo_35 ?_
      refine lv_sipush (v := 592) hx hb dX5_undo_38 (by decide) ?_
      refine lv_aload_n hx hb dX5_undo_41 rfl (lv_at hl 1 rfl) ?_
      refine va_get (D := G.1) (ci := 12) (v := .int (nI (st - 1))) (C := RX5) (T := TX5) (N := 15) hx hb hts in_X5 hown hE.1 hP 0 rfl rfl 8 (by decide) (hts _ q1143) (fun _ h9 => h9) rfl dX5_undo_42 ?_
      refine ol_imul hx hb 592 (st - 1) dX5_undo_45 ?_
      refine lv_iload_n hx hb dX5_undo_46 rfl (lv_at hl 0 rfl) ?_
      refine ol_iadd hx hb (592 * (st - 1)) i1 dX5_undo_47 ?_
      refine ol_iald hx hb hE.1 hP 2 0 rfl rfl (592 * (st - 1) + i1) (by omega) (by decide) dX5_undo_48 ?_
      refine ol_iast hx hb hE.1 hP hD hS 1 0 rfl rfl i1 (by omega) (by decide) dX5_undo_49 (fun H locs hP hD hS => ?_)
      replace hP : va_P G.1 cl0 (mW G ad (nI (st - 1)) iA iL iT iC iR (upd (mCpF pr r (592 * (st - 1)) i1) i1 (pr (592 * (st - 1) + i1))) pr ar br f pf af bf tx) H := hP
      replace hD : va_D (va_A (mW G ad (nI st) iA iL iT iC iR r pr ar br f pf af bf tx) s.heap.size) (mW G ad (nI (st - 1)) iA iL iT iC iR (upd (mCpF pr r (592 * (st - 1)) i1) i1 (pr (592 * (st - 1) + i1))) pr ar br f pf af bf tx) := hD
      refine ol_iinc (k := 0) (lv' := [(1, .int (nI (i1 + 1))), (0, .ref (ad 0))]) hx hb 1 i1 dX5_undo_50 hl rfl (by decide) rfl (fun ls hl => ?_)
      refine lv_goto (tgt := 22) hx hb dX5_undo_53 (by decide) ?_
      refine ih1 H locs ls (by omega) ⟨?_, ?_, ?_, hS⟩
      · exact lv_sub hl [0, 1] rfl
      · exact hP
      · exact mD_any hD
  · refine lv_bipush (v := (-5)) hx hb dX5_undo_7 (by decide) ?_
    exact ol_iretE hx hb hr hlocks ⟨congrArg (fun z => some (Value.int z)) (by simp [mUndoR, mUndoP, mUndoF, zB, c_4]), (by simp [mUndoR, mUndoP, mUndoF, zB, c_4])⟩ hP hD hS dX5_undo_9
set_option maxHeartbeats 4000000 in
set_option maxRecDepth 100000 in
theorem mm_restore (l : Launch) (G : oG) (ad : Nat → Nat) (st : Nat) (iA : Int32) (iL : Int32) (iT : Int32) (iC : Int32) (iR : Int32) (r : Nat → Int32) (pr : Nat → Int32) (ar : Nat → Int32) (br : Nat → Int32) (f : Nat → UInt32) (pf : Nat → UInt32) (af : Nat → UInt32) (bf : Nat → UInt32) (tx : Nat → Int32)   (hst : st ≤ 4) (sz : Nat) : Met l yX5_restore (ws_ yX5_restore cX5_restore 2 (some .int)) ({ frames := 2, cells := 0, slots := 0, locals := 41 }) (oPc G [.ref (ad 0)] (oPE G (mW G ad (nI st) iA iL iT iC iR r pr ar br f pf af bf tx) sz (fun _ => True))) (oE G (fun v_ W_ => v_ = some (.int (if iA = 0 then -5 else mCp ar r 592 2)) ∧ W_ = mW G ad (nI (if iA = 0 then st else mRecN st)) iA iL iT iC iR (if iA = 0 then r else mCp ar r 592) (if iA = 0 then pr else mRecP pr (mCp r br 592) st) ar (if iA = 0 then br else mCp r br 592) (if iA = 0 then f else mCf af f 7) (if iA = 0 then pf else mRecF pf (mCf f bf 7) st) af (if iA = 0 then bf else mCf f bf 7) tx) (mW G ad (nI st) iA iL iT iC iR r pr ar br f pf af bf tx) sz) 0 0 (va_A (mW G ad (nI st) iA iL iT iC iR r pr ar br f pf af bf tx) sz) := by
  refine Met.ofW (cc := cX5_restore) (maxL := 2) (ret := (some .int)) (by decide) rfl ?_
  intro p e s m args below meth c s₁ B hml hv
  obtain ⟨rfl, ⟨hsz, hP, hD0, hX⟩, hE⟩ := hv
  have hx := B.exec
  have hb := B.bytes
  have hr := B.returns
  have hts := atoms_spec (ws := ws_ yX5_restore cX5_restore 2 (some .int)) B.pre
  have hts : ∀ w ∈ lw_all, w.before _ s = true := fun w h => hts w (List.mem_cons_of_mem _ h)
  have hown : s.vm.findClass RX5 = some m.cls := findClass_of_methodNamed B.named
  have hlocks := B.notSynchronized
  subst hsz
  have hD := hD0.self (sz := s.heap.size)
  have hA : ∀ q : Nat, s.heap.size ≤ q → va_A (mW G ad (nI st) iA iL iT iC iR r pr ar br f pf af bf tx) s.heap.size q := fun q h => Or.inr h
  have hl := lv_entry ([.ref (ad 0)]) (n := 2) (Nat.le_of_ble_eq_true rfl)
  rw [lg_entry_eq]
  generalize (lg_sl ([.ref (ad 0)]) ++ List.replicate (2 - (lg_sl ([.ref (ad 0)])).length) Slot.unset).toArray = ls at hl ⊢
  replace hl : lv_has ls 2 [(0, .ref (ad 0))] := hl
  refine ol_start (A := va_A (mW G ad (nI st) iA iL iT iC iR r pr ar br f pf af bf tx) s.heap.size) (fun H locs hH hS => ?_)
  rw [← hH] at hP
  clear hH
  refine lv_aload_n hx hb dX5_restore_0 rfl (lv_at hl 0 rfl) ?_
  refine va_get (D := G.1) (ci := 12) (v := .int iA) (C := RX5) (T := TX5) (N := 15) hx hb hts in_X5 hown hE.1 hP 0 rfl rfl 9 (by decide) (hts _ q1144) (fun _ h9 => h9) rfl dX5_restore_1 ?_
  refine lv_if_ne (tgt := 10) hx hb dX5_restore_4 (by decide) (fun c_4 => ?_) (fun c_4 => ?_)
  · refine lv_aload_n hx hb dX5_restore_10 rfl (lv_at hl 0 rfl) ?_
    refine ol_cM (st1 := []) (va_runV (As := []) (rest := []) ⟨hx, hb, hml, hown, hts⟩ (mm_begin l G ad st iA iL iT iC iR r pr ar br f pf af bf tx (by omega) H.size) (cwV 0 hts (lw_V q1194 q1196 qs22 q73 q1197) rfl rfl rfl (by decide +kernel) ⟨Nat.le_of_ble_eq_true rfl, Nat.le_of_ble_eq_true rfl⟩) (oPc.preV hE (hE.recv (ci := 12) (hP 0 _ rfl) rfl) ⟨rfl, hP, oD_weak hD (fun _ _ => trivial), trivial⟩) rfl rfl hl.1 rfl (lv_room (Nat.le_of_ble_eq_true rfl)) dX5_restore_11 ⟨Nat.le_of_ble_eq_true rfl, Nat.le_of_ble_eq_true rfl⟩) hP hD hS hA rfl (fun H locs hP hD hS => ?_)
    refine lv_iconst (v := 0) hx hb dX5_restore_14 (by decide) ?_
    refine lv_istore_n (lv' := [(1, .int 0), (0, .ref (ad 0))]) hx hb dX5_restore_15 rfl hl (by decide) rfl (fun ls hl => ?_)
    refine ol_for (P := fun i1 H locs ls => lv_has ls 2 [(1, .int (nI i1)), (0, .ref (ad 0))] ∧ va_P G.1 cl0 (mW G ad (nI (mRecN st)) iA iL iT iC iR (mCp ar r i1) (mRecP pr (mCp r br 592) st) ar (mCp r br 592) f (mRecF pf (mCf f bf 7) st) af (mCf f bf 7) tx) H ∧ va_D (va_A (mW G ad (nI st) iA iL iT iC iR r pr ar br f pf af bf tx) s.heap.size) (mW G ad (nI (mRecN st)) iA iL iT iC iR (mCp ar r i1) (mRecP pr (mCp r br 592) st) ar (mCp r br 592) f (mRecF pf (mCf f bf 7) st) af (mCf f bf 7) tx) ∧ va_S (va_A (mW G ad (nI st) iA iL iT iC iR r pr ar br f pf af bf tx) s.heap.size) s.heap H locs) (592) 0 (by omega) ⟨lv_sub hl [0, 1] rfl, hP, hD, hS⟩ (fun i1 H locs ls hi1 hI ih1 => ?_)
    obtain ⟨hl, hP, hD, hS⟩ := hI
    refine lv_iload_n hx hb dX5_restore_16 rfl (lv_at hl 0 rfl) ?_
    refine lv_sipush (v := 592) hx hb dX5_restore_17 (by decide) ?_
    refine ol_icmp_ge hx hb i1 592 (by omega) (by omega) (tgt := 41) dX5_restore_20 (by decide) (fun c_20 => ?_) (fun c_20 => ?_)
    · have ei1 : 592 = i1 := by omega
      subst ei1
      refine lv_iconst (v := 0) hx hb dX5_restore_41 (by decide) ?_
      refine lv_istore_n (lv' := [(1, .int 0), (0, .ref (ad 0))]) hx hb dX5_restore_42 rfl hl (by decide) rfl (fun ls hl => ?_)
      refine ol_for (P := fun i2 H locs ls => lv_has ls 2 [(1, .int (nI i2)), (0, .ref (ad 0))] ∧ va_P G.1 cl0 (mW G ad (nI (mRecN st)) iA iL iT iC iR (mCp ar r 592) (mRecP pr (mCp r br 592) st) ar (mCp r br 592) (mCf af f i2) (mRecF pf (mCf f bf 7) st) af (mCf f bf 7) tx) H ∧ va_D (va_A (mW G ad (nI st) iA iL iT iC iR r pr ar br f pf af bf tx) s.heap.size) (mW G ad (nI (mRecN st)) iA iL iT iC iR (mCp ar r 592) (mRecP pr (mCp r br 592) st) ar (mCp r br 592) (mCf af f i2) (mRecF pf (mCf f bf 7) st) af (mCf f bf 7) tx) ∧ va_S (va_A (mW G ad (nI st) iA iL iT iC iR r pr ar br f pf af bf tx) s.heap.size) s.heap H locs) (7) 0 (by omega) ⟨lv_sub hl [0, 1] rfl, hP, hD, hS⟩ (fun i2 H locs ls hi2 hI ih2 => ?_)
      obtain ⟨hl, hP, hD, hS⟩ := hI
      refine lv_iload_n hx hb dX5_restore_43 rfl (lv_at hl 0 rfl) ?_
      refine lv_bipush (v := 7) hx hb dX5_restore_44 (by decide) ?_
      refine ol_icmp_ge hx hb i2 7 (by omega) (by omega) (tgt := 67) dX5_restore_46 (by decide) (fun c_46 => ?_) (fun c_46 => ?_)
      · have ei2 : 7 = i2 := by omega
        subst ei2
        refine lv_aload_n hx hb dX5_restore_67 rfl (lv_at hl 1 rfl) ?_
        refine va_get (D := G.1) (ci := 12) (v := .ref (ad 1)) (C := RX5) (T := TX5) (N := 15) hx hb hts in_X5 hown hE.1 hP 0 rfl rfl 0 (by decide) (hts _ q1135) (fun _ h9 => h9) rfl dX5_restore_68 ?_
        refine lv_iconst (v := 2) hx hb dX5_restore_71 (by decide) ?_
        refine ol_iald hx hb hE.1 hP 1 0 rfl rfl 2 (by decide) (by decide) dX5_restore_72 ?_
        exact ol_iretE hx hb hr hlocks ⟨congrArg (fun z => some (Value.int z)) (by simp [zB, c_4, c_20, Nat.not_lt.mpr c_20, c_46, Nat.not_lt.mpr c_46]), (by simp [zB, c_4, c_20, Nat.not_lt.mpr c_20, c_46, Nat.not_lt.mpr c_46])⟩ hP hD hS dX5_restore_73
      · refine lv_aload_n hx hb dX5_restore_49 rfl (lv_at hl 1 rfl) ?_
        refine va_get (D := G.1) (ci := 12) (v := .ref (ad 5)) (C := RX5) (T := TX5) (N := 15) hx hb hts in_X5 hown hE.1 hP 0 rfl rfl 4 (by decide) (hts _ q1139) (fun _ h9 => h9) rfl dX5_restore_50 ?_
        refine lv_iload_n hx hb dX5_restore_53 rfl (lv_at hl 0 rfl) ?_
        refine lv_aload_n hx hb dX5_restore_54 rfl (lv_at hl 1 rfl) ?_
        refine va_get (D := G.1) (ci := 12) (v := .ref (ad 7)) (C := RX5) (T := TX5) (N := 15) hx hb hts in_X5 hown hE.1 hP 0 rfl rfl 6 (by decide) (hts _ q1141) (fun _ h9 => h9) rfl dX5_restore_55 ?_
        refine lv_iload_n hx hb dX5_restore_58 rfl (lv_at hl 0 rfl) ?_
        refine ol_fald hx hb hE.1 hP 7 2 rfl rfl i2 (by omega) (by decide) dX5_restore_59 ?_
        refine ol_fast hx hb hE.1 hP hD hS 5 2 rfl rfl i2 (by omega) (by decide) dX5_restore_60 (fun H locs hP hD hS => ?_)
        replace hP : va_P G.1 cl0 (mW G ad (nI (mRecN st)) iA iL iT iC iR (mCp ar r 592) (mRecP pr (mCp r br 592) st) ar (mCp r br 592) (vf_upd (mCf af f i2) i2 (af i2)) (mRecF pf (mCf f bf 7) st) af (mCf f bf 7) tx) H := hP
        replace hD : va_D (va_A (mW G ad (nI st) iA iL iT iC iR r pr ar br f pf af bf tx) s.heap.size) (mW G ad (nI (mRecN st)) iA iL iT iC iR (mCp ar r 592) (mRecP pr (mCp r br 592) st) ar (mCp r br 592) (vf_upd (mCf af f i2) i2 (af i2)) (mRecF pf (mCf f bf 7) st) af (mCf f bf 7) tx) := hD
        refine ol_iinc (k := 0) (lv' := [(1, .int (nI (i2 + 1))), (0, .ref (ad 0))]) hx hb 1 i2 dX5_restore_61 hl rfl (by decide) rfl (fun ls hl => ?_)
        refine lv_goto (tgt := 43) hx hb dX5_restore_64 (by decide) ?_
        refine ih2 H locs ls (by omega) ⟨?_, ?_, ?_, hS⟩
        · exact lv_sub hl [0, 1] rfl
        · exact hP
        · exact mD_any hD
    · refine lv_aload_n hx hb dX5_restore_23 rfl (lv_at hl 1 rfl) ?_
      refine va_get (D := G.1) (ci := 12) (v := .ref (ad 1)) (C := RX5) (T := TX5) (N := 15) hx hb hts in_X5 hown hE.1 hP 0 rfl rfl 0 (by decide) (hts _ q1135) (fun _ h9 => h9) rfl dX5_restore_24 ?_
      refine lv_iload_n hx hb dX5_restore_27 rfl (lv_at hl 0 rfl) ?_
      refine lv_aload_n hx hb dX5_restore_28 rfl (lv_at hl 1 rfl) ?_
      refine va_get (D := G.1) (ci := 12) (v := .ref (ad 3)) (C := RX5) (T := TX5) (N := 15) hx hb hts in_X5 hown hE.1 hP 0 rfl rfl 2 (by decide) (hts _ q1137) (fun _ h9 => h9) rfl dX5_restore_29 ?_
      refine lv_iload_n hx hb dX5_restore_32 rfl (lv_at hl 0 rfl) ?_
      refine ol_iald hx hb hE.1 hP 3 0 rfl rfl i1 (by omega) (by decide) dX5_restore_33 ?_
      refine ol_iast hx hb hE.1 hP hD hS 1 0 rfl rfl i1 (by omega) (by decide) dX5_restore_34 (fun H locs hP hD hS => ?_)
      replace hP : va_P G.1 cl0 (mW G ad (nI (mRecN st)) iA iL iT iC iR (upd (mCp ar r i1) i1 (ar i1)) (mRecP pr (mCp r br 592) st) ar (mCp r br 592) f (mRecF pf (mCf f bf 7) st) af (mCf f bf 7) tx) H := hP
      replace hD : va_D (va_A (mW G ad (nI st) iA iL iT iC iR r pr ar br f pf af bf tx) s.heap.size) (mW G ad (nI (mRecN st)) iA iL iT iC iR (upd (mCp ar r i1) i1 (ar i1)) (mRecP pr (mCp r br 592) st) ar (mCp r br 592) f (mRecF pf (mCf f bf 7) st) af (mCf f bf 7) tx) := hD
      refine ol_iinc (k := 0) (lv' := [(1, .int (nI (i1 + 1))), (0, .ref (ad 0))]) hx hb 1 i1 dX5_restore_35 hl rfl (by decide) rfl (fun ls hl => ?_)
      refine lv_goto (tgt := 16) hx hb dX5_restore_38 (by decide) ?_
      refine ih1 H locs ls (by omega) ⟨?_, ?_, ?_, hS⟩
      · exact lv_sub hl [0, 1] rfl
      · exact hP
      · exact mD_any hD
  · refine lv_bipush (v := (-5)) hx hb dX5_restore_7 (by decide) ?_
    exact ol_iretE hx hb hr hlocks ⟨congrArg (fun z => some (Value.int z)) (by simp [zB, c_4]), (by simp [zB, c_4])⟩ hP hD hS dX5_restore_9
