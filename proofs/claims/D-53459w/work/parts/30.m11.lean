/-! THE REFERENCE: build and set -/
theorem sni_ok {v : Int32} (h0 : ¬ v < 0) (h1 : ¬ 2139095040 < v &&& 2147483647) : vn_sni2f v = false := by
  obtain ⟨e, hj⟩ := nn_of h0
  have e2 : v &&& 2147483647 = v := by
    have := pk_andN (n := cN v) (m := 2147483647) (by omega) 31 (by decide)
    rw [Nat.mod_eq_of_lt hj, ← e] at this
    exact this
  rw [e2, e, show (2139095040 : Int32) = nI 2139095040 from rfl, nI_ltI (by decide) hj] at h1
  have e3 : v.toUInt32.toNat = cN v := (congrArg (fun z => Int32.toUInt32 z |>.toNat) e).trans (by show (BitVec.ofNat 32 (cN v)).toNat = cN v; rw [BitVec.toNat_ofNat, Nat.mod_eq_of_lt (by omega)])
  have e4 : (v.toUInt32 &&& 0x7fffffff).toNat ≤ cN v := by rw [UInt32.toNat_and, e3]; exact Nat.and_le_left
  have e5 : ¬ (v.toUInt32 &&& 0x7fffffff > 0x7f800000) := by
    intro q
    have q2 : (0x7f800000 : UInt32).toNat < (v.toUInt32 &&& 0x7fffffff).toNat := UInt32.lt_iff_toNat_lt.mp q
    have q3 : (0x7f800000 : UInt32).toNat = 2139095040 := rfl
    omega
  unfold vn_sni2f
  rw [decide_eq_false e5]; rfl
def fge (a b : UInt32) : Bool := !decide (Op.cmpValue (FP.fcmp a b) .l < 0)
def fmo (a b : UInt32) : Bool := decide (0 < Op.cmpValue (FP.fcmp a b) .g)
def feq (a b : UInt32) : Bool := decide (Op.cmpValue (FP.fcmp a b) .l = 0)
def mSeM (x : Int32) : UInt32 := if x = 0 then FP.fconst2 else if x = 1 then 1082130432 else FP.fconst1
def mStOK (x v : Int32) : Bool := inR x 0 2 && !decide (v < 0) && !decide (2139095040 < v &&& 2147483647) && fge v.toUInt32 FP.fconst0 && !fmo v.toUInt32 (mSeM x)
def mStNo (f : Nat → UInt32) (x v : Int32) : Bool := !mStOK x v || feq (f (4 + cN x)) v.toUInt32
def mStV (f : Nat → UInt32) (x v : Int32) : Int32 := if mStOK x v = false then -2 else if feq (f (4 + cN x)) v.toUInt32 = true then -5 else (f (4 + cN x)).toInt32
def mFr (r : Nat → Int32) : Nat → Bool
  | 0 => true
  | k + 1 => mFr r k && (!dn r k && !sn r k)
def mBuI (a b : Int32) : Bool := inR a 2 6 && inR b 2 8
def mBuN (r : Nat → Int32) (Rw Cl : Nat) (a b : Int32) : Bool := !mBuI a b || !mFr r (Rw * Cl) || (decide (a = nI Rw) && decide (b = nI Cl))
def mBuV (r : Nat → Int32) (Rw Cl : Nat) (a b : Int32) : Int32 := if mBuI a b = false then -2 else if mFr r (Rw * Cl) = false then -4 else if a = nI Rw ∧ b = nI Cl then -5 else nI (cN a * cN b)
def mBuR (r : Nat → Int32) (a b : Int32) : Nat → Int32 := mClr (upd (upd (upd (upd r 0 a) 1 b) 5 (-5)) 6 (-5)) 48
theorem mClr_lo {r : Nat → Int32} (n : Nat) {j : Nat} (h : j < 20) : mClr r n j = r j := by
  induction n with
  | zero => rfl
  | succ n ih => unfold mClr; rw [pk_un (by omega), pk_un (by omega), pk_un (by omega), pk_un (by omega), pk_un (by omega), pk_un (by omega), ih]
theorem mBuR_g {r : Nat → Int32} {a b : Int32} (ha : inR a 2 6 = true) (hb : inR b 2 8 = true) : mG (mBuR r a b) (cN a) (cN b) := by
  obtain ⟨a1, a2, a3⟩ := inR_ab (a := 2) (b := 6) ⟨by decide, by decide⟩ ha
  obtain ⟨b1, b2, b3⟩ := inR_ab (a := 2) (b := 8) ⟨by decide, by decide⟩ hb
  refine ⟨?_, ?_, a1, a2, b1, b2⟩
  · unfold mBuR; rw [mClr_lo _ (by omega), pk_un (by omega), pk_un (by omega), pk_un (by omega), pk_us]; exact a3
  · unfold mBuR; rw [mClr_lo _ (by omega), pk_un (by omega), pk_un (by omega), pk_us]; exact b3
theorem mFr_f {r : Nat → Int32} {a n : Nat} (h : a ≤ n) (q : mFr r a = false) : mFr r n = false := by
  induction n with
  | zero => rw [show (0 : Nat) = a by omega]; exact q
  | succ n ih =>
    rcases Nat.lt_or_ge n a with h1 | h1
    · rw [show n + 1 = a by omega]; exact q
    · unfold mFr; rw [ih h1]; rfl
set_option maxHeartbeats 4000000 in
set_option maxRecDepth 100000 in
theorem mm_build (l : Launch) (G : oG) (ad : Nat → Nat) (st : Nat) (iA : Int32) (iL : Int32) (iT : Int32) (iC : Int32) (iR : Int32) (r : Nat → Int32) (pr : Nat → Int32) (ar : Nat → Int32) (br : Nat → Int32) (f : Nat → UInt32) (pf : Nat → UInt32) (af : Nat → UInt32) (bf : Nat → UInt32) (tx : Nat → Int32) (a : Int32) (b : Int32) (Rw Cl : Nat) (hg : mG r Rw Cl) (hst : st ≤ 4) (sz : Nat) : Met l yX5_build (ws_ yX5_build cX5_build 5 (some .int)) ({ frames := 2, cells := 0, slots := 0, locals := 41 }) (oPc G [.ref (ad 0), .int a, .int b] (oPE G (mW G ad (nI st) iA iL iT iC iR r pr ar br f pf af bf tx) sz (fun _ => True))) (oE G (fun v_ W_ => v_ = some (.int (mBuV r Rw Cl a b)) ∧ W_ = mW G ad (nI (if mBuN r Rw Cl a b = true then st else (mRecN st))) iA iL iT iC iR (if mBuN r Rw Cl a b = true then r else mBuR r a b) (if mBuN r Rw Cl a b = true then pr else mRecP pr (mCp r br 592) st) ar (if mBuN r Rw Cl a b = true then br else mCp r br 592) f (if mBuN r Rw Cl a b = true then pf else mRecF pf (mCf f bf 7) st) af (if mBuN r Rw Cl a b = true then bf else mCf f bf 7) tx) (mW G ad (nI st) iA iL iT iC iR r pr ar br f pf af bf tx) sz) 0 0 (va_A (mW G ad (nI st) iA iL iT iC iR r pr ar br f pf af bf tx) sz) := by
  refine Met.ofW (cc := cX5_build) (maxL := 5) (ret := (some .int)) (by decide) rfl ?_
  intro p e s m args below meth c s₁ B hml hv
  obtain ⟨rfl, ⟨hsz, hP, hD0, hX⟩, hE⟩ := hv
  have hx := B.exec
  have hb := B.bytes
  have hr := B.returns
  have hts := atoms_spec (ws := ws_ yX5_build cX5_build 5 (some .int)) B.pre
  have hts : ∀ w ∈ lw_all, w.before _ s = true := fun w h => hts w (List.mem_cons_of_mem _ h)
  have hown : s.vm.findClass RX5 = some m.cls := findClass_of_methodNamed B.named
  have hlocks := B.notSynchronized
  subst hsz
  have hD := hD0.self (sz := s.heap.size)
  have hA : ∀ q : Nat, s.heap.size ≤ q → va_A (mW G ad (nI st) iA iL iT iC iR r pr ar br f pf af bf tx) s.heap.size q := fun q h => Or.inr h
  have hl := lv_entry ([.ref (ad 0), .int a, .int b]) (n := 5) (Nat.le_of_ble_eq_true rfl)
  rw [lg_entry_eq]
  generalize (lg_sl ([.ref (ad 0), .int a, .int b]) ++ List.replicate (5 - (lg_sl ([.ref (ad 0), .int a, .int b])).length) Slot.unset).toArray = ls at hl ⊢
  replace hl : lv_has ls 5 [(0, .ref (ad 0)), (1, .int a), (2, .int b)] := hl
  refine ol_start (A := va_A (mW G ad (nI st) iA iL iT iC iR r pr ar br f pf af bf tx) s.heap.size) (fun H locs hH hS => ?_)
  rw [← hH] at hP
  clear hH
  have hgn := mG_n hg
  have hg' := hg
  obtain ⟨hg0, hg1, hg2, hg3, hg4, hg5⟩ := hg'
  refine lv_iload_n hx hb dX5_build_0 rfl (lv_at hl 1 rfl) ?_
  refine lv_iconst (v := 2) hx hb dX5_build_1 (by decide) ?_
  refine lv_bipush (v := 6) hx hb dX5_build_2 (by decide) ?_
  refine ol_cR (st1 := [.int (zB (inR a 2 6))]) (va_runS (As := [.int a, .int 2, .int 6]) (rest := []) ⟨hx, hb, hml, hown, hts⟩ (mr_in l G a 2 6 ) (va_cwS 3 hts (lw_S q1210 q1211 q73 q1212) rfl rfl rfl (by decide +kernel) ⟨Nat.le_of_ble_eq_true rfl, Nat.le_of_ble_eq_true rfl⟩) (oPc.preS hE trivial) rfl rfl hl.1 rfl (lv_room (Nat.le_of_ble_eq_true rfl)) dX5_build_4 ⟨Nat.le_of_ble_eq_true rfl, Nat.le_of_ble_eq_true rfl⟩) rfl ?_
  refine ol_if_eqB hx hb (inR a 2 6) (tgt := 20) dX5_build_7 (by decide) (fun c_7 => ?_) (fun c_7 => ?_)
  · refine lv_bipush (v := (-2)) hx hb dX5_build_20 (by decide) ?_
    exact ol_iretE hx hb hr hlocks ⟨congrArg (fun z => some (Value.int z)) (by simp [mBuV, mBuN, mBuI, zB, c_7]), (by simp [mBuV, mBuN, mBuI, zB, c_7])⟩ hP hD hS dX5_build_22
  · refine lv_iload_n hx hb dX5_build_10 rfl (lv_at hl 2 rfl) ?_
    refine lv_iconst (v := 2) hx hb dX5_build_11 (by decide) ?_
    refine lv_bipush (v := 8) hx hb dX5_build_12 (by decide) ?_
    refine ol_cR (st1 := [.int (zB (inR b 2 8))]) (va_runS (As := [.int b, .int 2, .int 8]) (rest := []) ⟨hx, hb, hml, hown, hts⟩ (mr_in l G b 2 8 ) (va_cwS 3 hts (lw_S q1210 q1211 q73 q1212) rfl rfl rfl (by decide +kernel) ⟨Nat.le_of_ble_eq_true rfl, Nat.le_of_ble_eq_true rfl⟩) (oPc.preS hE trivial) rfl rfl hl.1 rfl (lv_room (Nat.le_of_ble_eq_true rfl)) dX5_build_14 ⟨Nat.le_of_ble_eq_true rfl, Nat.le_of_ble_eq_true rfl⟩) rfl ?_
    refine ol_if_neB hx hb (inR b 2 8) (tgt := 23) dX5_build_17 (by decide) (fun c_17 => ?_) (fun c_17 => ?_)
    · refine lv_iconst (v := 1) hx hb dX5_build_23 (by decide) ?_
      refine lv_istore_n (lv' := [(3, .int 1), (0, .ref (ad 0)), (1, .int a), (2, .int b)]) hx hb dX5_build_24 rfl hl (by decide) rfl (fun ls hl => ?_)
      refine lv_iconst (v := 0) hx hb dX5_build_25 (by decide) ?_
      refine lv_istore (lv' := [(4, .int 0), (3, .int 1), (0, .ref (ad 0)), (1, .int a), (2, .int b)]) hx hb dX5_build_26 hl (by decide) rfl (fun ls hl => ?_)
      refine ol_for (P := fun i1 H locs ls => lv_has ls 5 [(4, .int (nI i1)), (0, .ref (ad 0)), (1, .int a), (2, .int b), (3, .int (zB (mFr r i1)))] ∧ va_P G.1 cl0 (mW G ad (nI st) iA iL iT iC iR r pr ar br f pf af bf tx) H ∧ va_D (va_A (mW G ad (nI st) iA iL iT iC iR r pr ar br f pf af bf tx) s.heap.size) (mW G ad (nI st) iA iL iT iC iR r pr ar br f pf af bf tx) ∧ va_S (va_A (mW G ad (nI st) iA iL iT iC iR r pr ar br f pf af bf tx) s.heap.size) s.heap H locs) (Rw * Cl) 0 (by omega) ⟨lv_sub hl [0, 2, 3, 4, 1] rfl, hP, hD, hS⟩ (fun i1 H locs ls hi1 hI ih1 => ?_)
      obtain ⟨hl, hP, hD, hS⟩ := hI
      refine lv_iload hx hb dX5_build_28 (lv_at hl 0 rfl) ?_
      refine lv_aload_n hx hb dX5_build_30 rfl (lv_at hl 1 rfl) ?_
      refine ol_cR (st1 := [.int (nI (Rw * Cl)), .int (nI i1)]) (va_runV (As := []) (rest := [.int (nI i1)]) ⟨hx, hb, hml, hown, hts⟩ (mr_keys l G ad (nI st) iA iL iT iC iR r pr ar br f pf af bf tx Rw Cl hg) (cwV 0 hts (lw_V q1213 q1215 qs25 q73 q1216) rfl rfl rfl (by decide +kernel) ⟨Nat.le_of_ble_eq_true rfl, Nat.le_of_ble_eq_true rfl⟩) (oPc.preV hE (hE.recv (ci := 12) (hP 0 _ rfl) rfl) hP) rfl rfl hl.1 rfl (lv_room (Nat.le_of_ble_eq_true rfl)) dX5_build_31 ⟨Nat.le_of_ble_eq_true rfl, Nat.le_of_ble_eq_true rfl⟩) rfl ?_
      refine ol_icmp_ge hx hb i1 (Rw * Cl) (by omega) (by omega) (tgt := 71) dX5_build_34 (by decide) (fun c_34 => ?_) (fun c_34 => ?_)
      · have ei1 : Rw * Cl = i1 := by omega
        subst ei1
        refine lv_iload_n hx hb dX5_build_71 rfl (lv_at hl 4 rfl) ?_
        refine ol_if_neB hx hb (mFr r (Rw * Cl)) (tgt := 78) dX5_build_72 (by decide) (fun c_72 => ?_) (fun c_72 => ?_)
        · refine lv_iload_n hx hb dX5_build_78 rfl (lv_at hl 2 rfl) ?_
          refine lv_aload_n hx hb dX5_build_79 rfl (lv_at hl 1 rfl) ?_
          refine va_get (D := G.1) (ci := 12) (v := .ref (ad 1)) (C := RX5) (T := TX5) (N := 15) hx hb hts in_X5 hown hE.1 hP 0 rfl rfl 0 (by decide) (hts _ q1135) (fun _ h9 => h9) rfl dX5_build_80 ?_
          refine lv_iconst (v := 0) hx hb dX5_build_83 (by decide) ?_
          refine ol_iald hx hb hE.1 hP 1 0 rfl rfl 0 (by decide) (by decide) dX5_build_84 ?_
          refine ol_top (y := nI Rw) hg0 ?_
          refine lv_icmp_ne (tgt := 101) hx hb dX5_build_85 (by decide) (fun c_85 => ?_) (fun c_85 => ?_)
          · refine lv_aload_n hx hb dX5_build_101 rfl (lv_at hl 1 rfl) ?_
            refine ol_cM (st1 := []) (va_runV (As := []) (rest := []) ⟨hx, hb, hml, hown, hts⟩ (mm_begin l G ad st iA iL iT iC iR r pr ar br f pf af bf tx (by omega) H.size) (cwV 0 hts (lw_V q1194 q1196 qs22 q73 q1197) rfl rfl rfl (by decide +kernel) ⟨Nat.le_of_ble_eq_true rfl, Nat.le_of_ble_eq_true rfl⟩) (oPc.preV hE (hE.recv (ci := 12) (hP 0 _ rfl) rfl) ⟨rfl, hP, oD_weak hD (fun _ _ => trivial), trivial⟩) rfl rfl hl.1 rfl (lv_room (Nat.le_of_ble_eq_true rfl)) dX5_build_102 ⟨Nat.le_of_ble_eq_true rfl, Nat.le_of_ble_eq_true rfl⟩) hP hD hS hA rfl (fun H locs hP hD hS => ?_)
            refine lv_aload_n hx hb dX5_build_105 rfl (lv_at hl 1 rfl) ?_
            refine va_get (D := G.1) (ci := 12) (v := .ref (ad 1)) (C := RX5) (T := TX5) (N := 15) hx hb hts in_X5 hown hE.1 hP 0 rfl rfl 0 (by decide) (hts _ q1135) (fun _ h9 => h9) rfl dX5_build_106 ?_
            refine lv_iconst (v := 0) hx hb dX5_build_109 (by decide) ?_
            refine lv_iload_n hx hb dX5_build_110 rfl (lv_at hl 2 rfl) ?_
            refine ol_iast hx hb hE.1 hP hD hS 1 0 rfl rfl 0 (by decide) (by decide) dX5_build_111 (fun H locs hP hD hS => ?_)
            replace hP : va_P G.1 cl0 (mW G ad (nI (mRecN st)) iA iL iT iC iR (upd r 0 a) (mRecP pr (mCp r br 592) st) ar (mCp r br 592) f (mRecF pf (mCf f bf 7) st) af (mCf f bf 7) tx) H := hP
            replace hD : va_D (va_A (mW G ad (nI st) iA iL iT iC iR r pr ar br f pf af bf tx) s.heap.size) (mW G ad (nI (mRecN st)) iA iL iT iC iR (upd r 0 a) (mRecP pr (mCp r br 592) st) ar (mCp r br 592) f (mRecF pf (mCf f bf 7) st) af (mCf f bf 7) tx) := hD
            refine lv_aload_n hx hb dX5_build_112 rfl (lv_at hl 1 rfl) ?_
            refine va_get (D := G.1) (ci := 12) (v := .ref (ad 1)) (C := RX5) (T := TX5) (N := 15) hx hb hts in_X5 hown hE.1 hP 0 rfl rfl 0 (by decide) (hts _ q1135) (fun _ h9 => h9) rfl dX5_build_113 ?_
            refine lv_iconst (v := 1) hx hb dX5_build_116 (by decide) ?_
            refine lv_iload_n hx hb dX5_build_117 rfl (lv_at hl 3 rfl) ?_
            refine ol_iast hx hb hE.1 hP hD hS 1 0 rfl rfl 1 (by decide) (by decide) dX5_build_118 (fun H locs hP hD hS => ?_)
            replace hP : va_P G.1 cl0 (mW G ad (nI (mRecN st)) iA iL iT iC iR (upd (upd r 0 a) 1 b) (mRecP pr (mCp r br 592) st) ar (mCp r br 592) f (mRecF pf (mCf f bf 7) st) af (mCf f bf 7) tx) H := hP
            replace hD : va_D (va_A (mW G ad (nI st) iA iL iT iC iR r pr ar br f pf af bf tx) s.heap.size) (mW G ad (nI (mRecN st)) iA iL iT iC iR (upd (upd r 0 a) 1 b) (mRecP pr (mCp r br 592) st) ar (mCp r br 592) f (mRecF pf (mCf f bf 7) st) af (mCf f bf 7) tx) := hD
            refine lv_aload_n hx hb dX5_build_119 rfl (lv_at hl 1 rfl) ?_
            refine va_get (D := G.1) (ci := 12) (v := .ref (ad 1)) (C := RX5) (T := TX5) (N := 15) hx hb hts in_X5 hown hE.1 hP 0 rfl rfl 0 (by decide) (hts _ q1135) (fun _ h9 => h9) rfl dX5_build_120 ?_
            refine lv_iconst (v := 5) hx hb dX5_build_123 (by decide) ?_
            refine lv_bipush (v := (-5)) hx hb dX5_build_124 (by decide) ?_
            refine ol_iast hx hb hE.1 hP hD hS 1 0 rfl rfl 5 (by decide) (by decide) dX5_build_126 (fun H locs hP hD hS => ?_)
            replace hP : va_P G.1 cl0 (mW G ad (nI (mRecN st)) iA iL iT iC iR (upd (upd (upd r 0 a) 1 b) 5 (-5)) (mRecP pr (mCp r br 592) st) ar (mCp r br 592) f (mRecF pf (mCf f bf 7) st) af (mCf f bf 7) tx) H := hP
            replace hD : va_D (va_A (mW G ad (nI st) iA iL iT iC iR r pr ar br f pf af bf tx) s.heap.size) (mW G ad (nI (mRecN st)) iA iL iT iC iR (upd (upd (upd r 0 a) 1 b) 5 (-5)) (mRecP pr (mCp r br 592) st) ar (mCp r br 592) f (mRecF pf (mCf f bf 7) st) af (mCf f bf 7) tx) := hD
            refine lv_aload_n hx hb dX5_build_127 rfl (lv_at hl 1 rfl) ?_
            refine va_get (D := G.1) (ci := 12) (v := .ref (ad 1)) (C := RX5) (T := TX5) (N := 15) hx hb hts in_X5 hown hE.1 hP 0 rfl rfl 0 (by decide) (hts _ q1135) (fun _ h9 => h9) rfl dX5_build_128 ?_
            refine lv_bipush (v := 6) hx hb dX5_build_131 (by decide) ?_
            refine lv_bipush (v := (-5)) hx hb dX5_build_133 (by decide) ?_
            refine ol_iast hx hb hE.1 hP hD hS 1 0 rfl rfl 6 (by decide) (by decide) dX5_build_135 (fun H locs hP hD hS => ?_)
            replace hP : va_P G.1 cl0 (mW G ad (nI (mRecN st)) iA iL iT iC iR (upd (upd (upd (upd r 0 a) 1 b) 5 (-5)) 6 (-5)) (mRecP pr (mCp r br 592) st) ar (mCp r br 592) f (mRecF pf (mCf f bf 7) st) af (mCf f bf 7) tx) H := hP
            replace hD : va_D (va_A (mW G ad (nI st) iA iL iT iC iR r pr ar br f pf af bf tx) s.heap.size) (mW G ad (nI (mRecN st)) iA iL iT iC iR (upd (upd (upd (upd r 0 a) 1 b) 5 (-5)) 6 (-5)) (mRecP pr (mCp r br 592) st) ar (mCp r br 592) f (mRecF pf (mCf f bf 7) st) af (mCf f bf 7) tx) := hD
            refine lv_aload_n hx hb dX5_build_136 rfl (lv_at hl 1 rfl) ?_
            refine ol_cM (st1 := []) (va_runV (As := []) (rest := []) ⟨hx, hb, hml, hown, hts⟩ (mm_clearKeys l G ad (nI (mRecN st)) iA iL iT iC iR (upd (upd (upd (upd r 0 a) 1 b) 5 (-5)) 6 (-5)) (mRecP pr (mCp r br 592) st) ar (mCp r br 592) f (mRecF pf (mCf f bf 7) st) af (mCf f bf 7) tx H.size) (cwV 0 hts (lw_V q1131 q1133 qs21 q73 q1134) rfl rfl rfl (by decide +kernel) ⟨Nat.le_of_ble_eq_true rfl, Nat.le_of_ble_eq_true rfl⟩) (oPc.preV hE (hE.recv (ci := 12) (hP 0 _ rfl) rfl) ⟨rfl, hP, oD_weak hD (fun _ _ => trivial), trivial⟩) rfl rfl hl.1 rfl (lv_room (Nat.le_of_ble_eq_true rfl)) dX5_build_137 ⟨Nat.le_of_ble_eq_true rfl, Nat.le_of_ble_eq_true rfl⟩) hP hD hS hA rfl (fun H locs hP hD hS => ?_)
            replace hP : va_P G.1 cl0 (mW G ad (nI (mRecN st)) iA iL iT iC iR (mBuR r a b) (mRecP pr (mCp r br 592) st) ar (mCp r br 592) f (mRecF pf (mCf f bf 7) st) af (mCf f bf 7) tx) H := hP
            replace hD : va_D (va_A (mW G ad (nI st) iA iL iT iC iR r pr ar br f pf af bf tx) s.heap.size) (mW G ad (nI (mRecN st)) iA iL iT iC iR (mBuR r a b) (mRecP pr (mCp r br 592) st) ar (mCp r br 592) f (mRecF pf (mCf f bf 7) st) af (mCf f bf 7) tx) := mD_any hD
            refine lv_aload_n hx hb dX5_build_140 rfl (lv_at hl 1 rfl) ?_
            refine ol_cR (st1 := [.int (nI ((cN a) * (cN b)))]) (va_runV (As := []) (rest := []) ⟨hx, hb, hml, hown, hts⟩ (mr_keys l G ad (nI (mRecN st)) iA iL iT iC iR (mBuR r a b) (mRecP pr (mCp r br 592) st) ar (mCp r br 592) f (mRecF pf (mCf f bf 7) st) af (mCf f bf 7) tx (cN a) (cN b) (mBuR_g c_7 c_17)) (cwV 0 hts (lw_V q1213 q1215 qs25 q73 q1216) rfl rfl rfl (by decide +kernel) ⟨Nat.le_of_ble_eq_true rfl, Nat.le_of_ble_eq_true rfl⟩) (oPc.preV hE (hE.recv (ci := 12) (hP 0 _ rfl) rfl) hP) rfl rfl hl.1 rfl (lv_room (Nat.le_of_ble_eq_true rfl)) dX5_build_141 ⟨Nat.le_of_ble_eq_true rfl, Nat.le_of_ble_eq_true rfl⟩) rfl ?_
            exact ol_iretE hx hb hr hlocks ⟨congrArg (fun z => some (Value.int z)) (by simp [mBuV, mBuN, mBuI, zB, c_7, c_17, c_34, Nat.not_lt.mpr c_34, c_72, c_85]), (by simp [mBuV, mBuN, mBuI, zB, c_7, c_17, c_34, Nat.not_lt.mpr c_34, c_72, c_85])⟩ hP hD hS dX5_build_144
          · refine lv_iload_n hx hb dX5_build_88 rfl (lv_at hl 3 rfl) ?_
            refine lv_aload_n hx hb dX5_build_89 rfl (lv_at hl 1 rfl) ?_
            refine va_get (D := G.1) (ci := 12) (v := .ref (ad 1)) (C := RX5) (T := TX5) (N := 15) hx hb hts in_X5 hown hE.1 hP 0 rfl rfl 0 (by decide) (hts _ q1135) (fun _ h9 => h9) rfl dX5_build_90 ?_
            refine lv_iconst (v := 1) hx hb dX5_build_93 (by decide) ?_
            refine ol_iald hx hb hE.1 hP 1 0 rfl rfl 1 (by decide) (by decide) dX5_build_94 ?_
            refine ol_top (y := nI Cl) hg1 ?_
            refine lv_icmp_ne (tgt := 101) hx hb dX5_build_95 (by decide) (fun c_95 => ?_) (fun c_95 => ?_)
            · refine lv_aload_n hx hb dX5_build_101 rfl (lv_at hl 1 rfl) ?_
              refine ol_cM (st1 := []) (va_runV (As := []) (rest := []) ⟨hx, hb, hml, hown, hts⟩ (mm_begin l G ad st iA iL iT iC iR r pr ar br f pf af bf tx (by omega) H.size) (cwV 0 hts (lw_V q1194 q1196 qs22 q73 q1197) rfl rfl rfl (by decide +kernel) ⟨Nat.le_of_ble_eq_true rfl, Nat.le_of_ble_eq_true rfl⟩) (oPc.preV hE (hE.recv (ci := 12) (hP 0 _ rfl) rfl) ⟨rfl, hP, oD_weak hD (fun _ _ => trivial), trivial⟩) rfl rfl hl.1 rfl (lv_room (Nat.le_of_ble_eq_true rfl)) dX5_build_102 ⟨Nat.le_of_ble_eq_true rfl, Nat.le_of_ble_eq_true rfl⟩) hP hD hS hA rfl (fun H locs hP hD hS => ?_)
              refine lv_aload_n hx hb dX5_build_105 rfl (lv_at hl 1 rfl) ?_
              refine va_get (D := G.1) (ci := 12) (v := .ref (ad 1)) (C := RX5) (T := TX5) (N := 15) hx hb hts in_X5 hown hE.1 hP 0 rfl rfl 0 (by decide) (hts _ q1135) (fun _ h9 => h9) rfl dX5_build_106 ?_
              refine lv_iconst (v := 0) hx hb dX5_build_109 (by decide) ?_
              refine lv_iload_n hx hb dX5_build_110 rfl (lv_at hl 2 rfl) ?_
              refine ol_iast hx hb hE.1 hP hD hS 1 0 rfl rfl 0 (by decide) (by decide) dX5_build_111 (fun H locs hP hD hS => ?_)
              replace hP : va_P G.1 cl0 (mW G ad (nI (mRecN st)) iA iL iT iC iR (upd r 0 a) (mRecP pr (mCp r br 592) st) ar (mCp r br 592) f (mRecF pf (mCf f bf 7) st) af (mCf f bf 7) tx) H := hP
              replace hD : va_D (va_A (mW G ad (nI st) iA iL iT iC iR r pr ar br f pf af bf tx) s.heap.size) (mW G ad (nI (mRecN st)) iA iL iT iC iR (upd r 0 a) (mRecP pr (mCp r br 592) st) ar (mCp r br 592) f (mRecF pf (mCf f bf 7) st) af (mCf f bf 7) tx) := hD
              refine lv_aload_n hx hb dX5_build_112 rfl (lv_at hl 1 rfl) ?_
              refine va_get (D := G.1) (ci := 12) (v := .ref (ad 1)) (C := RX5) (T := TX5) (N := 15) hx hb hts in_X5 hown hE.1 hP 0 rfl rfl 0 (by decide) (hts _ q1135) (fun _ h9 => h9) rfl dX5_build_113 ?_
              refine lv_iconst (v := 1) hx hb dX5_build_116 (by decide) ?_
              refine lv_iload_n hx hb dX5_build_117 rfl (lv_at hl 3 rfl) ?_
              refine ol_iast hx hb hE.1 hP hD hS 1 0 rfl rfl 1 (by decide) (by decide) dX5_build_118 (fun H locs hP hD hS => ?_)
              replace hP : va_P G.1 cl0 (mW G ad (nI (mRecN st)) iA iL iT iC iR (upd (upd r 0 a) 1 b) (mRecP pr (mCp r br 592) st) ar (mCp r br 592) f (mRecF pf (mCf f bf 7) st) af (mCf f bf 7) tx) H := hP
              replace hD : va_D (va_A (mW G ad (nI st) iA iL iT iC iR r pr ar br f pf af bf tx) s.heap.size) (mW G ad (nI (mRecN st)) iA iL iT iC iR (upd (upd r 0 a) 1 b) (mRecP pr (mCp r br 592) st) ar (mCp r br 592) f (mRecF pf (mCf f bf 7) st) af (mCf f bf 7) tx) := hD
              refine lv_aload_n hx hb dX5_build_119 rfl (lv_at hl 1 rfl) ?_
              refine va_get (D := G.1) (ci := 12) (v := .ref (ad 1)) (C := RX5) (T := TX5) (N := 15) hx hb hts in_X5 hown hE.1 hP 0 rfl rfl 0 (by decide) (hts _ q1135) (fun _ h9 => h9) rfl dX5_build_120 ?_
              refine lv_iconst (v := 5) hx hb dX5_build_123 (by decide) ?_
              refine lv_bipush (v := (-5)) hx hb dX5_build_124 (by decide) ?_
              refine ol_iast hx hb hE.1 hP hD hS 1 0 rfl rfl 5 (by decide) (by decide) dX5_build_126 (fun H locs hP hD hS => ?_)
              replace hP : va_P G.1 cl0 (mW G ad (nI (mRecN st)) iA iL iT iC iR (upd (upd (upd r 0 a) 1 b) 5 (-5)) (mRecP pr (mCp r br 592) st) ar (mCp r br 592) f (mRecF pf (mCf f bf 7) st) af (mCf f bf 7) tx) H := hP
              replace hD : va_D (va_A (mW G ad (nI st) iA iL iT iC iR r pr ar br f pf af bf tx) s.heap.size) (mW G ad (nI (mRecN st)) iA iL iT iC iR (upd (upd (upd r 0 a) 1 b) 5 (-5)) (mRecP pr (mCp r br 592) st) ar (mCp r br 592) f (mRecF pf (mCf f bf 7) st) af (mCf f bf 7) tx) := hD
              refine lv_aload_n hx hb dX5_build_127 rfl (lv_at hl 1 rfl) ?_
              refine va_get (D := G.1) (ci := 12) (v := .ref (ad 1)) (C := RX5) (T := TX5) (N := 15) hx hb hts in_X5 hown hE.1 hP 0 rfl rfl 0 (by decide) (hts _ q1135) (fun _ h9 => h9) rfl dX5_build_128 ?_
              refine lv_bipush (v := 6) hx hb dX5_build_131 (by decide) ?_
              refine lv_bipush (v := (-5)) hx hb dX5_build_133 (by decide) ?_
              refine ol_iast hx hb hE.1 hP hD hS 1 0 rfl rfl 6 (by decide) (by decide) dX5_build_135 (fun H locs hP hD hS => ?_)
              replace hP : va_P G.1 cl0 (mW G ad (nI (mRecN st)) iA iL iT iC iR (upd (upd (upd (upd r 0 a) 1 b) 5 (-5)) 6 (-5)) (mRecP pr (mCp r br 592) st) ar (mCp r br 592) f (mRecF pf (mCf f bf 7) st) af (mCf f bf 7) tx) H := hP
              replace hD : va_D (va_A (mW G ad (nI st) iA iL iT iC iR r pr ar br f pf af bf tx) s.heap.size) (mW G ad (nI (mRecN st)) iA iL iT iC iR (upd (upd (upd (upd r 0 a) 1 b) 5 (-5)) 6 (-5)) (mRecP pr (mCp r br 592) st) ar (mCp r br 592) f (mRecF pf (mCf f bf 7) st) af (mCf f bf 7) tx) := hD
              refine lv_aload_n hx hb dX5_build_136 rfl (lv_at hl 1 rfl) ?_
              refine ol_cM (st1 := []) (va_runV (As := []) (rest := []) ⟨hx, hb, hml, hown, hts⟩ (mm_clearKeys l G ad (nI (mRecN st)) iA iL iT iC iR (upd (upd (upd (upd r 0 a) 1 b) 5 (-5)) 6 (-5)) (mRecP pr (mCp r br 592) st) ar (mCp r br 592) f (mRecF pf (mCf f bf 7) st) af (mCf f bf 7) tx H.size) (cwV 0 hts (lw_V q1131 q1133 qs21 q73 q1134) rfl rfl rfl (by decide +kernel) ⟨Nat.le_of_ble_eq_true rfl, Nat.le_of_ble_eq_true rfl⟩) (oPc.preV hE (hE.recv (ci := 12) (hP 0 _ rfl) rfl) ⟨rfl, hP, oD_weak hD (fun _ _ => trivial), trivial⟩) rfl rfl hl.1 rfl (lv_room (Nat.le_of_ble_eq_true rfl)) dX5_build_137 ⟨Nat.le_of_ble_eq_true rfl, Nat.le_of_ble_eq_true rfl⟩) hP hD hS hA rfl (fun H locs hP hD hS => ?_)
              replace hP : va_P G.1 cl0 (mW G ad (nI (mRecN st)) iA iL iT iC iR (mBuR r a b) (mRecP pr (mCp r br 592) st) ar (mCp r br 592) f (mRecF pf (mCf f bf 7) st) af (mCf f bf 7) tx) H := hP
              replace hD : va_D (va_A (mW G ad (nI st) iA iL iT iC iR r pr ar br f pf af bf tx) s.heap.size) (mW G ad (nI (mRecN st)) iA iL iT iC iR (mBuR r a b) (mRecP pr (mCp r br 592) st) ar (mCp r br 592) f (mRecF pf (mCf f bf 7) st) af (mCf f bf 7) tx) := mD_any hD
              refine lv_aload_n hx hb dX5_build_140 rfl (lv_at hl 1 rfl) ?_
              refine ol_cR (st1 := [.int (nI ((cN a) * (cN b)))]) (va_runV (As := []) (rest := []) ⟨hx, hb, hml, hown, hts⟩ (mr_keys l G ad (nI (mRecN st)) iA iL iT iC iR (mBuR r a b) (mRecP pr (mCp r br 592) st) ar (mCp r br 592) f (mRecF pf (mCf f bf 7) st) af (mCf f bf 7) tx (cN a) (cN b) (mBuR_g c_7 c_17)) (cwV 0 hts (lw_V q1213 q1215 qs25 q73 q1216) rfl rfl rfl (by decide +kernel) ⟨Nat.le_of_ble_eq_true rfl, Nat.le_of_ble_eq_true rfl⟩) (oPc.preV hE (hE.recv (ci := 12) (hP 0 _ rfl) rfl) hP) rfl rfl hl.1 rfl (lv_room (Nat.le_of_ble_eq_true rfl)) dX5_build_141 ⟨Nat.le_of_ble_eq_true rfl, Nat.le_of_ble_eq_true rfl⟩) rfl ?_
              exact ol_iretE hx hb hr hlocks ⟨congrArg (fun z => some (Value.int z)) (by simp [mBuV, mBuN, mBuI, zB, c_7, c_17, c_34, Nat.not_lt.mpr c_34, c_72, c_85, (show inR (nI Rw) 2 6 = true by rw [← c_85]; exact c_7), c_95]), (by simp [mBuV, mBuN, mBuI, zB, c_7, c_17, c_34, Nat.not_lt.mpr c_34, c_72, c_85, (show inR (nI Rw) 2 6 = true by rw [← c_85]; exact c_7), c_95])⟩ hP hD hS dX5_build_144
            · refine lv_bipush (v := (-5)) hx hb dX5_build_98 (by decide) ?_
              exact ol_iretE hx hb hr hlocks ⟨congrArg (fun z => some (Value.int z)) (by simp [mBuV, mBuN, mBuI, zB, c_7, c_17, c_34, Nat.not_lt.mpr c_34, c_72, c_85, (show inR (nI Rw) 2 6 = true by rw [← c_85]; exact c_7), c_95, (show inR (nI Cl) 2 8 = true by rw [← c_95]; exact c_17)]), (by simp [mBuV, mBuN, mBuI, zB, c_7, c_17, c_34, Nat.not_lt.mpr c_34, c_72, c_85, (show inR (nI Rw) 2 6 = true by rw [← c_85]; exact c_7), c_95, (show inR (nI Cl) 2 8 = true by rw [← c_95]; exact c_17)])⟩ hP hD hS dX5_build_100
        · refine lv_bipush (v := (-4)) hx hb dX5_build_75 (by decide) ?_
          exact ol_iretE hx hb hr hlocks ⟨congrArg (fun z => some (Value.int z)) (by simp [mBuV, mBuN, mBuI, zB, c_7, c_17, c_34, Nat.not_lt.mpr c_34, c_72]), (by simp [mBuV, mBuN, mBuI, zB, c_7, c_17, c_34, Nat.not_lt.mpr c_34, c_72])⟩ hP hD hS dX5_build_77
      · refine lv_iload_n hx hb dX5_build_37 rfl (lv_at hl 4 rfl) ?_
        refine ol_if_eqB hx hb (mFr r i1) (tgt := 63) dX5_build_38 (by decide) (fun c_38 => ?_) (fun c_38 => ?_)
        · refine lv_iconst (v := 0) hx hb dX5_build_63 (by decide) ?_
          refine lv_istore_n (lv' := [(3, .int 0), (4, .int (nI i1)), (0, .ref (ad 0)), (1, .int a), (2, .int b)]) hx hb dX5_build_64 rfl hl (by decide) rfl (fun ls hl => ?_)
          refine ol_iinc (k := 1) (lv' := [(4, .int (nI (i1 + 1))), (3, .int 0), (0, .ref (ad 0)), (1, .int a), (2, .int b)]) hx hb 1 i1 dX5_build_65 hl rfl (by decide) rfl (fun ls hl => ?_)
          refine lv_goto (tgt := 28) hx hb dX5_build_68 (by decide) ?_
          refine ih1 H locs ls (by omega) ⟨?_, ?_, ?_, hS⟩
          · rw [show mFr r (i1 + 1) = false from by simp [mFr, c_34, Nat.not_le.mpr c_34, c_38]]; exact lv_sub hl [0, 2, 3, 4, 1] rfl
          · exact hP
          · exact mD_any hD
        · refine lv_aload_n hx hb dX5_build_41 rfl (lv_at hl 1 rfl) ?_
          refine lv_iload hx hb dX5_build_42 (lv_at hl 0 rfl) ?_
          refine ol_cR (st1 := [.int (zB (dn r i1))]) (va_runV (As := [.int (nI i1)]) (rest := []) ⟨hx, hb, hml, hown, hts⟩ (mr_isDown l G ad (nI st) iA iL iT iC iR r pr ar br f pf af bf tx i1 (by omega)) (cwV 1 hts (lw_V q1217 q1219 qs26 q73 q1220) rfl rfl rfl (by decide +kernel) ⟨Nat.le_of_ble_eq_true rfl, Nat.le_of_ble_eq_true rfl⟩) (oPc.preV hE (hE.recv (ci := 12) (hP 0 _ rfl) rfl) hP) rfl rfl hl.1 rfl (lv_room (Nat.le_of_ble_eq_true rfl)) dX5_build_44 ⟨Nat.le_of_ble_eq_true rfl, Nat.le_of_ble_eq_true rfl⟩) rfl ?_
          refine ol_if_neB hx hb (dn r i1) (tgt := 63) dX5_build_47 (by decide) (fun c_47 => ?_) (fun c_47 => ?_)
          · refine lv_iconst (v := 0) hx hb dX5_build_63 (by decide) ?_
            refine lv_istore_n (lv' := [(3, .int 0), (4, .int (nI i1)), (0, .ref (ad 0)), (1, .int a), (2, .int b)]) hx hb dX5_build_64 rfl hl (by decide) rfl (fun ls hl => ?_)
            refine ol_iinc (k := 1) (lv' := [(4, .int (nI (i1 + 1))), (3, .int 0), (0, .ref (ad 0)), (1, .int a), (2, .int b)]) hx hb 1 i1 dX5_build_65 hl rfl (by decide) rfl (fun ls hl => ?_)
            refine lv_goto (tgt := 28) hx hb dX5_build_68 (by decide) ?_
            refine ih1 H locs ls (by omega) ⟨?_, ?_, ?_, hS⟩
            · rw [show mFr r (i1 + 1) = false from by simp [mFr, c_34, Nat.not_le.mpr c_34, c_38, c_47]]; exact lv_sub hl [0, 2, 3, 4, 1] rfl
            · exact hP
            · exact mD_any hD
          · refine lv_aload_n hx hb dX5_build_50 rfl (lv_at hl 1 rfl) ?_
            refine lv_iload hx hb dX5_build_51 (lv_at hl 0 rfl) ?_
            refine ol_cR (st1 := [.int (zB (sn r i1))]) (va_runV (As := [.int (nI i1)]) (rest := []) ⟨hx, hb, hml, hown, hts⟩ (mr_isSeen l G ad (nI st) iA iL iT iC iR r pr ar br f pf af bf tx i1 (by omega)) (cwV 1 hts (lw_V q1221 q1223 qs27 q73 q1224) rfl rfl rfl (by decide +kernel) ⟨Nat.le_of_ble_eq_true rfl, Nat.le_of_ble_eq_true rfl⟩) (oPc.preV hE (hE.recv (ci := 12) (hP 0 _ rfl) rfl) hP) rfl rfl hl.1 rfl (lv_room (Nat.le_of_ble_eq_true rfl)) dX5_build_53 ⟨Nat.le_of_ble_eq_true rfl, Nat.le_of_ble_eq_true rfl⟩) rfl ?_
            refine ol_if_neB hx hb (sn r i1) (tgt := 63) dX5_build_56 (by decide) (fun c_56 => ?_) (fun c_56 => ?_)
            · refine lv_iconst (v := 0) hx hb dX5_build_63 (by decide) ?_
              refine lv_istore_n (lv' := [(3, .int 0), (4, .int (nI i1)), (0, .ref (ad 0)), (1, .int a), (2, .int b)]) hx hb dX5_build_64 rfl hl (by decide) rfl (fun ls hl => ?_)
              refine ol_iinc (k := 1) (lv' := [(4, .int (nI (i1 + 1))), (3, .int 0), (0, .ref (ad 0)), (1, .int a), (2, .int b)]) hx hb 1 i1 dX5_build_65 hl rfl (by decide) rfl (fun ls hl => ?_)
              refine lv_goto (tgt := 28) hx hb dX5_build_68 (by decide) ?_
              refine ih1 H locs ls (by omega) ⟨?_, ?_, ?_, hS⟩
              · rw [show mFr r (i1 + 1) = false from by simp [mFr, c_34, Nat.not_le.mpr c_34, c_38, c_47, c_56]]; exact lv_sub hl [0, 2, 3, 4, 1] rfl
              · exact hP
              · exact mD_any hD
            · refine lv_iconst (v := 1) hx hb dX5_build_59 (by decide) ?_
              refine lv_goto (tgt := 64) hx hb dX5_build_60 (by decide) ?_
              refine lv_istore_n (lv' := [(3, .int 1), (4, .int (nI i1)), (0, .ref (ad 0)), (1, .int a), (2, .int b)]) hx hb dX5_build_64 rfl hl (by decide) rfl (fun ls hl => ?_)
              refine ol_iinc (k := 1) (lv' := [(4, .int (nI (i1 + 1))), (3, .int 1), (0, .ref (ad 0)), (1, .int a), (2, .int b)]) hx hb 1 i1 dX5_build_65 hl rfl (by decide) rfl (fun ls hl => ?_)
              refine lv_goto (tgt := 28) hx hb dX5_build_68 (by decide) ?_
              refine ih1 H locs ls (by omega) ⟨?_, ?_, ?_, hS⟩
              · rw [show mFr r (i1 + 1) = true from by simp [mFr, c_34, Nat.not_le.mpr c_34, c_38, c_47, c_56]]; exact lv_sub hl [0, 2, 3, 4, 1] rfl
              · exact hP
              · exact mD_any hD
    · refine lv_bipush (v := (-2)) hx hb dX5_build_20 (by decide) ?_
      exact ol_iretE hx hb hr hlocks ⟨congrArg (fun z => some (Value.int z)) (by simp [mBuV, mBuN, mBuI, zB, c_7, c_17]), (by simp [mBuV, mBuN, mBuI, zB, c_7, c_17])⟩ hP hD hS dX5_build_22
set_option maxHeartbeats 4000000 in
set_option maxRecDepth 100000 in
theorem mm_set (l : Launch) (G : oG) (ad : Nat → Nat) (st : Nat) (iA : Int32) (iL : Int32) (iT : Int32) (iC : Int32) (iR : Int32) (r : Nat → Int32) (pr : Nat → Int32) (ar : Nat → Int32) (br : Nat → Int32) (f : Nat → UInt32) (pf : Nat → UInt32) (af : Nat → UInt32) (bf : Nat → UInt32) (tx : Nat → Int32) (x : Int32) (v : Int32)  (hst : st ≤ 4) (hfn : ∀ j, 4 ≤ j → j < 7 → fnan (f j) = false) (sz : Nat) : Met l yX5_set (ws_ yX5_set cX5_set 6 (some .int)) ({ frames := 2, cells := 0, slots := 0, locals := 41 }) (oPc G [.ref (ad 0), .int x, .int v] (oPE G (mW G ad (nI st) iA iL iT iC iR r pr ar br f pf af bf tx) sz (fun _ => True))) (oE G (fun v_ W_ => v_ = some (.int (mStV f x v)) ∧ W_ = mW G ad (nI (if mStNo f x v = true then st else (mRecN st))) iA iL iT iC iR r (if mStNo f x v = true then pr else mRecP pr (mCp r br 592) st) ar (if mStNo f x v = true then br else mCp r br 592) (if mStNo f x v = true then f else vf_upd f (4 + cN x) v.toUInt32) (if mStNo f x v = true then pf else mRecF pf (mCf f bf 7) st) af (if mStNo f x v = true then bf else mCf f bf 7) tx) (mW G ad (nI st) iA iL iT iC iR r pr ar br f pf af bf tx) sz) 0 0 (va_A (mW G ad (nI st) iA iL iT iC iR r pr ar br f pf af bf tx) sz) := by
  refine Met.ofW (cc := cX5_set) (maxL := 6) (ret := (some .int)) (by decide) rfl ?_
  intro p e s m args below meth c s₁ B hml hv
  obtain ⟨rfl, ⟨hsz, hP, hD0, hX⟩, hE⟩ := hv
  have hx := B.exec
  have hb := B.bytes
  have hr := B.returns
  have hts := atoms_spec (ws := ws_ yX5_set cX5_set 6 (some .int)) B.pre
  have hts : ∀ w ∈ lw_all, w.before _ s = true := fun w h => hts w (List.mem_cons_of_mem _ h)
  have hown : s.vm.findClass RX5 = some m.cls := findClass_of_methodNamed B.named
  have hlocks := B.notSynchronized
  subst hsz
  have hD := hD0.self (sz := s.heap.size)
  have hA : ∀ q : Nat, s.heap.size ≤ q → va_A (mW G ad (nI st) iA iL iT iC iR r pr ar br f pf af bf tx) s.heap.size q := fun q h => Or.inr h
  have hl := lv_entry ([.ref (ad 0), .int x, .int v]) (n := 6) (Nat.le_of_ble_eq_true rfl)
  rw [lg_entry_eq]
  generalize (lg_sl ([.ref (ad 0), .int x, .int v]) ++ List.replicate (6 - (lg_sl ([.ref (ad 0), .int x, .int v])).length) Slot.unset).toArray = ls at hl ⊢
  replace hl : lv_has ls 6 [(0, .ref (ad 0)), (1, .int x), (2, .int v)] := hl
  refine ol_start (A := va_A (mW G ad (nI st) iA iL iT iC iR r pr ar br f pf af bf tx) s.heap.size) (fun H locs hH hS => ?_)
  rw [← hH] at hP
  clear hH
  refine lv_iload_n hx hb dX5_set_0 rfl (lv_at hl 1 rfl) ?_
  refine lv_iconst (v := 0) hx hb dX5_set_1 (by decide) ?_
  refine lv_iconst (v := 2) hx hb dX5_set_2 (by decide) ?_
  refine ol_cR (st1 := [.int (zB (inR x 0 2))]) (va_runS (As := [.int x, .int 0, .int 2]) (rest := []) ⟨hx, hb, hml, hown, hts⟩ (mr_in l G x 0 2 ) (va_cwS 3 hts (lw_S q1210 q1211 q73 q1212) rfl rfl rfl (by decide +kernel) ⟨Nat.le_of_ble_eq_true rfl, Nat.le_of_ble_eq_true rfl⟩) (oPc.preS hE trivial) rfl rfl hl.1 rfl (lv_room (Nat.le_of_ble_eq_true rfl)) dX5_set_3 ⟨Nat.le_of_ble_eq_true rfl, Nat.le_of_ble_eq_true rfl⟩) rfl ?_
  refine ol_if_neB hx hb (inR x 0 2) (tgt := 12) dX5_set_6 (by decide) (fun c_6 => ?_) (fun c_6 => ?_)
  · obtain ⟨hx2, hx1⟩ := inR_n (n := 3) (by decide) (show inR x 0 2 = true from c_6)
    refine lv_iload_n hx hb dX5_set_12 rfl (lv_at hl 2 rfl) ?_
    refine lv_if_lt (tgt := 25) hx hb dX5_set_13 (by decide) (fun c_13 => ?_) (fun c_13 => ?_)
    · refine lv_bipush (v := (-2)) hx hb dX5_set_25 (by decide) ?_
      exact ol_iretE hx hb hr hlocks ⟨congrArg (fun z => some (Value.int z)) (by simp [mStV, mStNo, mStOK, fge, fmo, feq, zB, c_6, c_13, Int32.not_le.mpr c_13]), (by simp [mStV, mStNo, mStOK, fge, fmo, feq, zB, c_6, c_13, Int32.not_le.mpr c_13])⟩ hP hD hS dX5_set_27
    · refine lv_iload_n hx hb dX5_set_16 rfl (lv_at hl 2 rfl) ?_
      refine lv_ldc hx hb hown (hts _ q1253) dX5_set_17 ?_
      refine lv_iand hx hb dX5_set_19 ?_
      refine lv_ldc hx hb hown (hts _ q1254) dX5_set_20 ?_
      refine lv_icmp_le (tgt := 28) hx hb dX5_set_22 (by decide) (fun c_22 => ?_) (fun c_22 => ?_)
      · refine lv_iload_n hx hb dX5_set_28 rfl (lv_at hl 2 rfl) ?_
        refine vn_i2f hx hb (by rw [hml]; exact hl.1.symm) hown (hts _ q1255) (hts _ q548) (hts _ q547) (hts _ q77) (hv := (sni_ok c_13 (Int32.not_lt.mpr c_22))) (Nat.le_of_ble_eq_true rfl) (Nat.le_of_ble_eq_true rfl) dX5_set_29 ?_
        refine lv_fstore_n (lv' := [(3, .float v.toUInt32), (0, .ref (ad 0)), (1, .int x), (2, .int v)]) hx hb dX5_set_32 rfl hl (by decide) rfl (fun ls hl => ?_)
        refine lv_iload_n hx hb dX5_set_33 rfl (lv_at hl 2 rfl) ?_
        refine lv_if_ne (tgt := 41) hx hb dX5_set_34 (by decide) (fun c_34 => ?_) (fun c_34 => ?_)
        · refine lv_iload_n hx hb dX5_set_41 rfl (lv_at hl 2 rfl) ?_
          refine lv_iconst (v := 1) hx hb dX5_set_42 (by decide) ?_
          refine lv_icmp_ne (tgt := 51) hx hb dX5_set_43 (by decide) (fun c_43 => ?_) (fun c_43 => ?_)
          · refine lv_fconst1 hx hb dX5_set_51 ?_
            refine lv_fstore (lv' := [(4, .float FP.fconst1), (3, .float v.toUInt32), (0, .ref (ad 0)), (1, .int x), (2, .int v)]) hx hb dX5_set_52 hl (by decide) rfl (fun ls hl => ?_)
            have hmo : mSeM x = FP.fconst1 := by simp [mSeM, c_34, c_43]
            replace hl : lv_has ls 6 [(4, .float (mSeM x)), (3, .float v.toUInt32), (0, .ref (ad 0)), (1, .int x), (2, .int v)] := by rw [hmo]; exact hl
            refine lv_fload_n hx hb dX5_set_54 rfl (lv_at hl 1 rfl) ?_
            refine lv_fconst0 hx hb dX5_set_55 ?_
            refine lv_fcmp hx hb dX5_set_56 ?_
            refine lv_if_lt (tgt := 67) hx hb dX5_set_57 (by decide) (fun c_57 => ?_) (fun c_57 => ?_)
            · refine lv_bipush (v := (-2)) hx hb dX5_set_67 (by decide) ?_
              exact ol_iretE hx hb hr hlocks ⟨congrArg (fun z => some (Value.int z)) (by simp [mStV, mStNo, mStOK, fge, fmo, feq, zB, c_6, c_13, Int32.not_lt.mp c_13, c_22, Int32.not_lt.mpr c_22, c_57, Int32.not_le.mpr c_57]), (by simp [mStV, mStNo, mStOK, fge, fmo, feq, zB, c_6, c_13, Int32.not_lt.mp c_13, c_22, Int32.not_lt.mpr c_22, c_57, Int32.not_le.mpr c_57])⟩ hP hD hS dX5_set_69
            · refine lv_fload_n hx hb dX5_set_60 rfl (lv_at hl 1 rfl) ?_
              refine lv_fload hx hb dX5_set_61 (lv_at hl 0 rfl) ?_
              refine lv_fcmp hx hb dX5_set_63 ?_
              refine lv_if_le (tgt := 70) hx hb dX5_set_64 (by decide) (fun c_64 => ?_) (fun c_64 => ?_)
              · refine lv_aload_n hx hb dX5_set_70 rfl (lv_at hl 2 rfl) ?_
                refine va_get (D := G.1) (ci := 12) (v := .ref (ad 5)) (C := RX5) (T := TX5) (N := 15) hx hb hts in_X5 hown hE.1 hP 0 rfl rfl 4 (by decide) (hts _ q1139) (fun _ h9 => h9) rfl dX5_set_71 ?_
                refine lv_iconst (v := 4) hx hb dX5_set_74 (by decide) ?_
                refine lv_iload_n hx hb dX5_set_75 rfl (lv_at hl 3 rfl) ?_
                refine ol_top (y := nI (cN x)) hx1 ?_
                refine ol_iadd hx hb 4 (cN x) dX5_set_76 ?_
                refine ol_fald hx hb hE.1 hP 5 2 rfl rfl (4 + (cN x)) (by omega) (by decide) dX5_set_77 ?_
                refine lv_fstore (lv' := [(5, .float (f (4 + (cN x)))), (4, .float (mSeM x)), (3, .float v.toUInt32), (0, .ref (ad 0)), (1, .int x), (2, .int v)]) hx hb dX5_set_78 hl (by decide) rfl (fun ls hl => ?_)
                refine lv_fload hx hb dX5_set_80 (lv_at hl 0 rfl) ?_
                refine lv_fload_n hx hb dX5_set_82 rfl (lv_at hl 2 rfl) ?_
                refine lv_fcmp hx hb dX5_set_83 ?_
                refine lv_if_ne (tgt := 90) hx hb dX5_set_84 (by decide) (fun c_84 => ?_) (fun c_84 => ?_)
                · refine lv_aload_n hx hb dX5_set_90 rfl (lv_at hl 3 rfl) ?_
                  refine ol_cM (st1 := []) (va_runV (As := []) (rest := []) ⟨hx, hb, hml, hown, hts⟩ (mm_begin l G ad st iA iL iT iC iR r pr ar br f pf af bf tx (by omega) H.size) (cwV 0 hts (lw_V q1194 q1196 qs22 q73 q1197) rfl rfl rfl (by decide +kernel) ⟨Nat.le_of_ble_eq_true rfl, Nat.le_of_ble_eq_true rfl⟩) (oPc.preV hE (hE.recv (ci := 12) (hP 0 _ rfl) rfl) ⟨rfl, hP, oD_weak hD (fun _ _ => trivial), trivial⟩) rfl rfl hl.1 rfl (lv_room (Nat.le_of_ble_eq_true rfl)) dX5_set_91 ⟨Nat.le_of_ble_eq_true rfl, Nat.le_of_ble_eq_true rfl⟩) hP hD hS hA rfl (fun H locs hP hD hS => ?_)
                  refine lv_aload_n hx hb dX5_set_94 rfl (lv_at hl 3 rfl) ?_
                  refine va_get (D := G.1) (ci := 12) (v := .ref (ad 5)) (C := RX5) (T := TX5) (N := 15) hx hb hts in_X5 hown hE.1 hP 0 rfl rfl 4 (by decide) (hts _ q1139) (fun _ h9 => h9) rfl dX5_set_95 ?_
                  refine lv_iconst (v := 4) hx hb dX5_set_98 (by decide) ?_
                  refine lv_iload_n hx hb dX5_set_99 rfl (lv_at hl 4 rfl) ?_
                  refine ol_top (y := nI (cN x)) hx1 ?_
                  refine ol_iadd hx hb 4 (cN x) dX5_set_100 ?_
                  refine lv_fload_n hx hb dX5_set_101 rfl (lv_at hl 2 rfl) ?_
                  refine ol_fast hx hb hE.1 hP hD hS 5 2 rfl rfl (4 + (cN x)) (by omega) (by decide) dX5_set_102 (fun H locs hP hD hS => ?_)
                  replace hP : va_P G.1 cl0 (mW G ad (nI (mRecN st)) iA iL iT iC iR r (mRecP pr (mCp r br 592) st) ar (mCp r br 592) (vf_upd f (4 + (cN x)) v.toUInt32) (mRecF pf (mCf f bf 7) st) af (mCf f bf 7) tx) H := hP
                  replace hD : va_D (va_A (mW G ad (nI st) iA iL iT iC iR r pr ar br f pf af bf tx) s.heap.size) (mW G ad (nI (mRecN st)) iA iL iT iC iR r (mRecP pr (mCp r br 592) st) ar (mCp r br 592) (vf_upd f (4 + (cN x)) v.toUInt32) (mRecF pf (mCf f bf 7) st) af (mCf f bf 7) tx) := hD
                  refine lv_fload hx hb dX5_set_103 (lv_at hl 0 rfl) ?_
                  refine ol_cR (st1 := [.int ((f (4 + (cN x))).toInt32)]) (va_runS (As := [.float (f (4 + (cN x)))]) (rest := []) ⟨hx, hb, hml, hown, hts⟩ (jk_floatToIntBits l G (f (4 + (cN x))) (hfn _ (by omega) (by omega))) (va_cwS 1 hts (lw_S q1256 q1257 q77 q1258) rfl rfl rfl (by decide +kernel) ⟨Nat.le_of_ble_eq_true rfl, Nat.le_of_ble_eq_true rfl⟩) (oPc.preS hE trivial) rfl rfl hl.1 rfl (lv_room (Nat.le_of_ble_eq_true rfl)) dX5_set_105 ⟨Nat.le_of_ble_eq_true rfl, Nat.le_of_ble_eq_true rfl⟩) rfl ?_
                  exact ol_iretE hx hb hr hlocks ⟨congrArg (fun z => some (Value.int z)) (by simp [mStV, mStNo, mStOK, fge, fmo, feq, zB, c_6, c_13, Int32.not_lt.mp c_13, c_22, Int32.not_lt.mpr c_22, c_57, Int32.not_lt.mp c_57, c_64, Int32.not_lt.mpr c_64, c_84]), (by simp [mStV, mStNo, mStOK, fge, fmo, feq, zB, c_6, c_13, Int32.not_lt.mp c_13, c_22, Int32.not_lt.mpr c_22, c_57, Int32.not_lt.mp c_57, c_64, Int32.not_lt.mpr c_64, c_84])⟩ hP hD hS dX5_set_108
                · refine lv_bipush (v := (-5)) hx hb dX5_set_87 (by decide) ?_
                  exact ol_iretE hx hb hr hlocks ⟨congrArg (fun z => some (Value.int z)) (by simp [mStV, mStNo, mStOK, fge, fmo, feq, zB, c_6, c_13, Int32.not_lt.mp c_13, c_22, Int32.not_lt.mpr c_22, c_57, Int32.not_lt.mp c_57, c_64, Int32.not_lt.mpr c_64, c_84]), (by simp [mStV, mStNo, mStOK, fge, fmo, feq, zB, c_6, c_13, Int32.not_lt.mp c_13, c_22, Int32.not_lt.mpr c_22, c_57, Int32.not_lt.mp c_57, c_64, Int32.not_lt.mpr c_64, c_84])⟩ hP hD hS dX5_set_89
              · refine lv_bipush (v := (-2)) hx hb dX5_set_67 (by decide) ?_
                exact ol_iretE hx hb hr hlocks ⟨congrArg (fun z => some (Value.int z)) (by simp [mStV, mStNo, mStOK, fge, fmo, feq, zB, c_6, c_13, Int32.not_lt.mp c_13, c_22, Int32.not_lt.mpr c_22, c_57, Int32.not_lt.mp c_57, c_64, Int32.not_le.mp c_64]), (by simp [mStV, mStNo, mStOK, fge, fmo, feq, zB, c_6, c_13, Int32.not_lt.mp c_13, c_22, Int32.not_lt.mpr c_22, c_57, Int32.not_lt.mp c_57, c_64, Int32.not_le.mp c_64])⟩ hP hD hS dX5_set_69
          · refine lv_ldcf hx hb hown (hts _ q1126) dX5_set_46 ?_
            refine lv_goto (tgt := 52) hx hb dX5_set_48 (by decide) ?_
            refine lv_fstore (lv' := [(4, .float 1082130432), (3, .float v.toUInt32), (0, .ref (ad 0)), (1, .int x), (2, .int v)]) hx hb dX5_set_52 hl (by decide) rfl (fun ls hl => ?_)
            have hmo : mSeM x = 1082130432 := by simp [mSeM, c_34, c_43]
            replace hl : lv_has ls 6 [(4, .float (mSeM x)), (3, .float v.toUInt32), (0, .ref (ad 0)), (1, .int x), (2, .int v)] := by rw [hmo]; exact hl
            refine lv_fload_n hx hb dX5_set_54 rfl (lv_at hl 1 rfl) ?_
            refine lv_fconst0 hx hb dX5_set_55 ?_
            refine lv_fcmp hx hb dX5_set_56 ?_
            refine lv_if_lt (tgt := 67) hx hb dX5_set_57 (by decide) (fun c_57 => ?_) (fun c_57 => ?_)
            · refine lv_bipush (v := (-2)) hx hb dX5_set_67 (by decide) ?_
              exact ol_iretE hx hb hr hlocks ⟨congrArg (fun z => some (Value.int z)) (by simp [mStV, mStNo, mStOK, fge, fmo, feq, zB, c_6, c_13, Int32.not_lt.mp c_13, c_22, Int32.not_lt.mpr c_22, c_57, Int32.not_le.mpr c_57]), (by simp [mStV, mStNo, mStOK, fge, fmo, feq, zB, c_6, c_13, Int32.not_lt.mp c_13, c_22, Int32.not_lt.mpr c_22, c_57, Int32.not_le.mpr c_57])⟩ hP hD hS dX5_set_69
            · refine lv_fload_n hx hb dX5_set_60 rfl (lv_at hl 1 rfl) ?_
              refine lv_fload hx hb dX5_set_61 (lv_at hl 0 rfl) ?_
              refine lv_fcmp hx hb dX5_set_63 ?_
              refine lv_if_le (tgt := 70) hx hb dX5_set_64 (by decide) (fun c_64 => ?_) (fun c_64 => ?_)
              · refine lv_aload_n hx hb dX5_set_70 rfl (lv_at hl 2 rfl) ?_
                refine va_get (D := G.1) (ci := 12) (v := .ref (ad 5)) (C := RX5) (T := TX5) (N := 15) hx hb hts in_X5 hown hE.1 hP 0 rfl rfl 4 (by decide) (hts _ q1139) (fun _ h9 => h9) rfl dX5_set_71 ?_
                refine lv_iconst (v := 4) hx hb dX5_set_74 (by decide) ?_
                refine lv_iload_n hx hb dX5_set_75 rfl (lv_at hl 3 rfl) ?_
                refine ol_top (y := nI (cN x)) hx1 ?_
                refine ol_iadd hx hb 4 (cN x) dX5_set_76 ?_
                refine ol_fald hx hb hE.1 hP 5 2 rfl rfl (4 + (cN x)) (by omega) (by decide) dX5_set_77 ?_
                refine lv_fstore (lv' := [(5, .float (f (4 + (cN x)))), (4, .float (mSeM x)), (3, .float v.toUInt32), (0, .ref (ad 0)), (1, .int x), (2, .int v)]) hx hb dX5_set_78 hl (by decide) rfl (fun ls hl => ?_)
                refine lv_fload hx hb dX5_set_80 (lv_at hl 0 rfl) ?_
                refine lv_fload_n hx hb dX5_set_82 rfl (lv_at hl 2 rfl) ?_
                refine lv_fcmp hx hb dX5_set_83 ?_
                refine lv_if_ne (tgt := 90) hx hb dX5_set_84 (by decide) (fun c_84 => ?_) (fun c_84 => ?_)
                · refine lv_aload_n hx hb dX5_set_90 rfl (lv_at hl 3 rfl) ?_
                  refine ol_cM (st1 := []) (va_runV (As := []) (rest := []) ⟨hx, hb, hml, hown, hts⟩ (mm_begin l G ad st iA iL iT iC iR r pr ar br f pf af bf tx (by omega) H.size) (cwV 0 hts (lw_V q1194 q1196 qs22 q73 q1197) rfl rfl rfl (by decide +kernel) ⟨Nat.le_of_ble_eq_true rfl, Nat.le_of_ble_eq_true rfl⟩) (oPc.preV hE (hE.recv (ci := 12) (hP 0 _ rfl) rfl) ⟨rfl, hP, oD_weak hD (fun _ _ => trivial), trivial⟩) rfl rfl hl.1 rfl (lv_room (Nat.le_of_ble_eq_true rfl)) dX5_set_91 ⟨Nat.le_of_ble_eq_true rfl, Nat.le_of_ble_eq_true rfl⟩) hP hD hS hA rfl (fun H locs hP hD hS => ?_)
                  refine lv_aload_n hx hb dX5_set_94 rfl (lv_at hl 3 rfl) ?_
                  refine va_get (D := G.1) (ci := 12) (v := .ref (ad 5)) (C := RX5) (T := TX5) (N := 15) hx hb hts in_X5 hown hE.1 hP 0 rfl rfl 4 (by decide) (hts _ q1139) (fun _ h9 => h9) rfl dX5_set_95 ?_
                  refine lv_iconst (v := 4) hx hb dX5_set_98 (by decide) ?_
                  refine lv_iload_n hx hb dX5_set_99 rfl (lv_at hl 4 rfl) ?_
                  refine ol_top (y := nI (cN x)) hx1 ?_
                  refine ol_iadd hx hb 4 (cN x) dX5_set_100 ?_
                  refine lv_fload_n hx hb dX5_set_101 rfl (lv_at hl 2 rfl) ?_
                  refine ol_fast hx hb hE.1 hP hD hS 5 2 rfl rfl (4 + (cN x)) (by omega) (by decide) dX5_set_102 (fun H locs hP hD hS => ?_)
                  replace hP : va_P G.1 cl0 (mW G ad (nI (mRecN st)) iA iL iT iC iR r (mRecP pr (mCp r br 592) st) ar (mCp r br 592) (vf_upd f (4 + (cN x)) v.toUInt32) (mRecF pf (mCf f bf 7) st) af (mCf f bf 7) tx) H := hP
                  replace hD : va_D (va_A (mW G ad (nI st) iA iL iT iC iR r pr ar br f pf af bf tx) s.heap.size) (mW G ad (nI (mRecN st)) iA iL iT iC iR r (mRecP pr (mCp r br 592) st) ar (mCp r br 592) (vf_upd f (4 + (cN x)) v.toUInt32) (mRecF pf (mCf f bf 7) st) af (mCf f bf 7) tx) := hD
                  refine lv_fload hx hb dX5_set_103 (lv_at hl 0 rfl) ?_
                  refine ol_cR (st1 := [.int ((f (4 + (cN x))).toInt32)]) (va_runS (As := [.float (f (4 + (cN x)))]) (rest := []) ⟨hx, hb, hml, hown, hts⟩ (jk_floatToIntBits l G (f (4 + (cN x))) (hfn _ (by omega) (by omega))) (va_cwS 1 hts (lw_S q1256 q1257 q77 q1258) rfl rfl rfl (by decide +kernel) ⟨Nat.le_of_ble_eq_true rfl, Nat.le_of_ble_eq_true rfl⟩) (oPc.preS hE trivial) rfl rfl hl.1 rfl (lv_room (Nat.le_of_ble_eq_true rfl)) dX5_set_105 ⟨Nat.le_of_ble_eq_true rfl, Nat.le_of_ble_eq_true rfl⟩) rfl ?_
                  exact ol_iretE hx hb hr hlocks ⟨congrArg (fun z => some (Value.int z)) (by simp [mStV, mStNo, mStOK, fge, fmo, feq, zB, c_6, c_13, Int32.not_lt.mp c_13, c_22, Int32.not_lt.mpr c_22, c_57, Int32.not_lt.mp c_57, c_64, Int32.not_lt.mpr c_64, c_84]), (by simp [mStV, mStNo, mStOK, fge, fmo, feq, zB, c_6, c_13, Int32.not_lt.mp c_13, c_22, Int32.not_lt.mpr c_22, c_57, Int32.not_lt.mp c_57, c_64, Int32.not_lt.mpr c_64, c_84])⟩ hP hD hS dX5_set_108
                · refine lv_bipush (v := (-5)) hx hb dX5_set_87 (by decide) ?_
                  exact ol_iretE hx hb hr hlocks ⟨congrArg (fun z => some (Value.int z)) (by simp [mStV, mStNo, mStOK, fge, fmo, feq, zB, c_6, c_13, Int32.not_lt.mp c_13, c_22, Int32.not_lt.mpr c_22, c_57, Int32.not_lt.mp c_57, c_64, Int32.not_lt.mpr c_64, c_84]), (by simp [mStV, mStNo, mStOK, fge, fmo, feq, zB, c_6, c_13, Int32.not_lt.mp c_13, c_22, Int32.not_lt.mpr c_22, c_57, Int32.not_lt.mp c_57, c_64, Int32.not_lt.mpr c_64, c_84])⟩ hP hD hS dX5_set_89
              · refine lv_bipush (v := (-2)) hx hb dX5_set_67 (by decide) ?_
                exact ol_iretE hx hb hr hlocks ⟨congrArg (fun z => some (Value.int z)) (by simp [mStV, mStNo, mStOK, fge, fmo, feq, zB, c_6, c_13, Int32.not_lt.mp c_13, c_22, Int32.not_lt.mpr c_22, c_57, Int32.not_lt.mp c_57, c_64, Int32.not_le.mp c_64]), (by simp [mStV, mStNo, mStOK, fge, fmo, feq, zB, c_6, c_13, Int32.not_lt.mp c_13, c_22, Int32.not_lt.mpr c_22, c_57, Int32.not_lt.mp c_57, c_64, Int32.not_le.mp c_64])⟩ hP hD hS dX5_set_69
        · refine lv_fconst2 hx hb dX5_set_37 ?_
          refine lv_goto (tgt := 52) hx hb dX5_set_38 (by decide) ?_
          refine lv_fstore (lv' := [(4, .float FP.fconst2), (3, .float v.toUInt32), (0, .ref (ad 0)), (1, .int x), (2, .int v)]) hx hb dX5_set_52 hl (by decide) rfl (fun ls hl => ?_)
          have hmo : mSeM x = FP.fconst2 := by simp [mSeM, c_34]
          replace hl : lv_has ls 6 [(4, .float (mSeM x)), (3, .float v.toUInt32), (0, .ref (ad 0)), (1, .int x), (2, .int v)] := by rw [hmo]; exact hl
          refine lv_fload_n hx hb dX5_set_54 rfl (lv_at hl 1 rfl) ?_
          refine lv_fconst0 hx hb dX5_set_55 ?_
          refine lv_fcmp hx hb dX5_set_56 ?_
          refine lv_if_lt (tgt := 67) hx hb dX5_set_57 (by decide) (fun c_57 => ?_) (fun c_57 => ?_)
          · refine lv_bipush (v := (-2)) hx hb dX5_set_67 (by decide) ?_
            exact ol_iretE hx hb hr hlocks ⟨congrArg (fun z => some (Value.int z)) (by simp [mStV, mStNo, mStOK, fge, fmo, feq, zB, c_6, c_13, Int32.not_lt.mp c_13, c_22, Int32.not_lt.mpr c_22, c_57, Int32.not_le.mpr c_57]), (by simp [mStV, mStNo, mStOK, fge, fmo, feq, zB, c_6, c_13, Int32.not_lt.mp c_13, c_22, Int32.not_lt.mpr c_22, c_57, Int32.not_le.mpr c_57])⟩ hP hD hS dX5_set_69
          · refine lv_fload_n hx hb dX5_set_60 rfl (lv_at hl 1 rfl) ?_
            refine lv_fload hx hb dX5_set_61 (lv_at hl 0 rfl) ?_
            refine lv_fcmp hx hb dX5_set_63 ?_
            refine lv_if_le (tgt := 70) hx hb dX5_set_64 (by decide) (fun c_64 => ?_) (fun c_64 => ?_)
            · refine lv_aload_n hx hb dX5_set_70 rfl (lv_at hl 2 rfl) ?_
              refine va_get (D := G.1) (ci := 12) (v := .ref (ad 5)) (C := RX5) (T := TX5) (N := 15) hx hb hts in_X5 hown hE.1 hP 0 rfl rfl 4 (by decide) (hts _ q1139) (fun _ h9 => h9) rfl dX5_set_71 ?_
              refine lv_iconst (v := 4) hx hb dX5_set_74 (by decide) ?_
              refine lv_iload_n hx hb dX5_set_75 rfl (lv_at hl 3 rfl) ?_
              refine ol_top (y := nI (cN x)) hx1 ?_
              refine ol_iadd hx hb 4 (cN x) dX5_set_76 ?_
              refine ol_fald hx hb hE.1 hP 5 2 rfl rfl (4 + (cN x)) (by omega) (by decide) dX5_set_77 ?_
              refine lv_fstore (lv' := [(5, .float (f (4 + (cN x)))), (4, .float (mSeM x)), (3, .float v.toUInt32), (0, .ref (ad 0)), (1, .int x), (2, .int v)]) hx hb dX5_set_78 hl (by decide) rfl (fun ls hl => ?_)
              refine lv_fload hx hb dX5_set_80 (lv_at hl 0 rfl) ?_
              refine lv_fload_n hx hb dX5_set_82 rfl (lv_at hl 2 rfl) ?_
              refine lv_fcmp hx hb dX5_set_83 ?_
              refine lv_if_ne (tgt := 90) hx hb dX5_set_84 (by decide) (fun c_84 => ?_) (fun c_84 => ?_)
              · refine lv_aload_n hx hb dX5_set_90 rfl (lv_at hl 3 rfl) ?_
                refine ol_cM (st1 := []) (va_runV (As := []) (rest := []) ⟨hx, hb, hml, hown, hts⟩ (mm_begin l G ad st iA iL iT iC iR r pr ar br f pf af bf tx (by omega) H.size) (cwV 0 hts (lw_V q1194 q1196 qs22 q73 q1197) rfl rfl rfl (by decide +kernel) ⟨Nat.le_of_ble_eq_true rfl, Nat.le_of_ble_eq_true rfl⟩) (oPc.preV hE (hE.recv (ci := 12) (hP 0 _ rfl) rfl) ⟨rfl, hP, oD_weak hD (fun _ _ => trivial), trivial⟩) rfl rfl hl.1 rfl (lv_room (Nat.le_of_ble_eq_true rfl)) dX5_set_91 ⟨Nat.le_of_ble_eq_true rfl, Nat.le_of_ble_eq_true rfl⟩) hP hD hS hA rfl (fun H locs hP hD hS => ?_)
                refine lv_aload_n hx hb dX5_set_94 rfl (lv_at hl 3 rfl) ?_
                refine va_get (D := G.1) (ci := 12) (v := .ref (ad 5)) (C := RX5) (T := TX5) (N := 15) hx hb hts in_X5 hown hE.1 hP 0 rfl rfl 4 (by decide) (hts _ q1139) (fun _ h9 => h9) rfl dX5_set_95 ?_
                refine lv_iconst (v := 4) hx hb dX5_set_98 (by decide) ?_
                refine lv_iload_n hx hb dX5_set_99 rfl (lv_at hl 4 rfl) ?_
                refine ol_top (y := nI (cN x)) hx1 ?_
                refine ol_iadd hx hb 4 (cN x) dX5_set_100 ?_
                refine lv_fload_n hx hb dX5_set_101 rfl (lv_at hl 2 rfl) ?_
                refine ol_fast hx hb hE.1 hP hD hS 5 2 rfl rfl (4 + (cN x)) (by omega) (by decide) dX5_set_102 (fun H locs hP hD hS => ?_)
                replace hP : va_P G.1 cl0 (mW G ad (nI (mRecN st)) iA iL iT iC iR r (mRecP pr (mCp r br 592) st) ar (mCp r br 592) (vf_upd f (4 + (cN x)) v.toUInt32) (mRecF pf (mCf f bf 7) st) af (mCf f bf 7) tx) H := hP
                replace hD : va_D (va_A (mW G ad (nI st) iA iL iT iC iR r pr ar br f pf af bf tx) s.heap.size) (mW G ad (nI (mRecN st)) iA iL iT iC iR r (mRecP pr (mCp r br 592) st) ar (mCp r br 592) (vf_upd f (4 + (cN x)) v.toUInt32) (mRecF pf (mCf f bf 7) st) af (mCf f bf 7) tx) := hD
                refine lv_fload hx hb dX5_set_103 (lv_at hl 0 rfl) ?_
                refine ol_cR (st1 := [.int ((f (4 + (cN x))).toInt32)]) (va_runS (As := [.float (f (4 + (cN x)))]) (rest := []) ⟨hx, hb, hml, hown, hts⟩ (jk_floatToIntBits l G (f (4 + (cN x))) (hfn _ (by omega) (by omega))) (va_cwS 1 hts (lw_S q1256 q1257 q77 q1258) rfl rfl rfl (by decide +kernel) ⟨Nat.le_of_ble_eq_true rfl, Nat.le_of_ble_eq_true rfl⟩) (oPc.preS hE trivial) rfl rfl hl.1 rfl (lv_room (Nat.le_of_ble_eq_true rfl)) dX5_set_105 ⟨Nat.le_of_ble_eq_true rfl, Nat.le_of_ble_eq_true rfl⟩) rfl ?_
                exact ol_iretE hx hb hr hlocks ⟨congrArg (fun z => some (Value.int z)) (by simp [mStV, mStNo, mStOK, fge, fmo, feq, zB, c_6, c_13, Int32.not_lt.mp c_13, c_22, Int32.not_lt.mpr c_22, c_57, Int32.not_lt.mp c_57, c_64, Int32.not_lt.mpr c_64, c_84]), (by simp [mStV, mStNo, mStOK, fge, fmo, feq, zB, c_6, c_13, Int32.not_lt.mp c_13, c_22, Int32.not_lt.mpr c_22, c_57, Int32.not_lt.mp c_57, c_64, Int32.not_lt.mpr c_64, c_84])⟩ hP hD hS dX5_set_108
              · refine lv_bipush (v := (-5)) hx hb dX5_set_87 (by decide) ?_
                exact ol_iretE hx hb hr hlocks ⟨congrArg (fun z => some (Value.int z)) (by simp [mStV, mStNo, mStOK, fge, fmo, feq, zB, c_6, c_13, Int32.not_lt.mp c_13, c_22, Int32.not_lt.mpr c_22, c_57, Int32.not_lt.mp c_57, c_64, Int32.not_lt.mpr c_64, c_84]), (by simp [mStV, mStNo, mStOK, fge, fmo, feq, zB, c_6, c_13, Int32.not_lt.mp c_13, c_22, Int32.not_lt.mpr c_22, c_57, Int32.not_lt.mp c_57, c_64, Int32.not_lt.mpr c_64, c_84])⟩ hP hD hS dX5_set_89
            · refine lv_bipush (v := (-2)) hx hb dX5_set_67 (by decide) ?_
              exact ol_iretE hx hb hr hlocks ⟨congrArg (fun z => some (Value.int z)) (by simp [mStV, mStNo, mStOK, fge, fmo, feq, zB, c_6, c_13, Int32.not_lt.mp c_13, c_22, Int32.not_lt.mpr c_22, c_57, Int32.not_lt.mp c_57, c_64, Int32.not_le.mp c_64]), (by simp [mStV, mStNo, mStOK, fge, fmo, feq, zB, c_6, c_13, Int32.not_lt.mp c_13, c_22, Int32.not_lt.mpr c_22, c_57, Int32.not_lt.mp c_57, c_64, Int32.not_le.mp c_64])⟩ hP hD hS dX5_set_69
      · refine lv_bipush (v := (-2)) hx hb dX5_set_25 (by decide) ?_
        exact ol_iretE hx hb hr hlocks ⟨congrArg (fun z => some (Value.int z)) (by simp [mStV, mStNo, mStOK, fge, fmo, feq, zB, c_6, c_13, Int32.not_lt.mp c_13, c_22, Int32.not_le.mp c_22]), (by simp [mStV, mStNo, mStOK, fge, fmo, feq, zB, c_6, c_13, Int32.not_lt.mp c_13, c_22, Int32.not_le.mp c_22])⟩ hP hD hS dX5_set_27
  · refine lv_bipush (v := (-2)) hx hb dX5_set_9 (by decide) ?_
    exact ol_iretE hx hb hr hlocks ⟨congrArg (fun z => some (Value.int z)) (by simp [mStV, mStNo, mStOK, fge, fmo, feq, zB, c_6]), (by simp [mStV, mStNo, mStOK, fge, fmo, feq, zB, c_6])⟩ hP hD hS dX5_set_11
