/-! THE REFERENCE: a tick -/
def mFm (r : Nat → Int32) (Rw Cl : Nat) : Nat := cN (r 2) % Rw * Cl
def mSb (r : Nat → Int32) (Rw Cl : Nat) : Nat := (mDrv r Rw Cl (mFm r Rw Cl / Cl)).2
/-- strokes end: rows, floats, how many -/
def mS1 (r : Nat → Int32) (f : Nat → UInt32) (n fm sb : Nat) : Nat → (Nat → Int32) × (Nat → UInt32) × Nat
  | 0 => (r, f, 0)
  | c + 1 => if (sn (mS1 r f n fm sb c).1 (fm + c) && !Nat.testBit sb c) = true then (mEndR (mS1 r f n fm sb c).1 (mS1 r f n fm sb c).2.1 n (fm + c), mEndF (mS1 r f n fm sb c).1 (mS1 r f n fm sb c).2.1 (fm + c), (mS1 r f n fm sb c).2.2 + 1) else mS1 r f n fm sb c
/-- keys are seen anew: rows, which columns -/
def mS2 (r : Nat → Int32) (fm sb : Nat) : Nat → (Nat → Int32) × Nat
  | 0 => (r, 0)
  | c + 1 => if (!sn (mS2 r fm sb c).1 (fm + c) && Nat.testBit sb c) = true then (upd (mS2 r fm sb c).1 (68 + fm + c) ((mS2 r fm sb c).1 2), (mS2 r fm sb c).2 ||| 2 ^ c) else mS2 r fm sb c
def mS3 (r : Nat → Int32) (Rw Cl fm fr : Nat) : Nat → Nat → Int32
  | 0 => r
  | c + 1 => if Nat.testBit fr c = true then upd (mS3 r Rw Cl fm fr c) (116 + fm + c) (zB (mCorner (mS3 r Rw Cl fm fr c) Rw Cl (fm + c))) else mS3 r Rw Cl fm fr c
def mNt (r : Nat → Int32) : Nat := (if mOn r 0 = true then 1 else 0) + (if mOn r 1 = true then 2 else 0)
def mS4 (r : Nat → Int32) (fm fr : Nat) : Nat → Nat → Int32
  | 0 => r
  | c + 1 => if Nat.testBit fr c = true then upd (upd (mS4 r fm fr c) (164 + fm + c) (nI (mNt (mS4 r fm fr c)))) (212 + fm + c) (upd (mS4 r fm fr c) (164 + fm + c) (nI (mNt (mS4 r fm fr c))) (20 + fm + c)) else mS4 r fm fr c
def mP1 (r : Nat → Int32) (f : Nat → UInt32) (Rw Cl : Nat) : (Nat → Int32) × (Nat → UInt32) × Nat := mS1 r f (Rw * Cl) (mFm r Rw Cl) (mSb r Rw Cl) Cl
def mP2 (r : Nat → Int32) (f : Nat → UInt32) (Rw Cl : Nat) : (Nat → Int32) × Nat := mS2 (mP1 r f Rw Cl).1 (mFm r Rw Cl) (mSb r Rw Cl) Cl
def mP3 (r : Nat → Int32) (f : Nat → UInt32) (Rw Cl : Nat) : Nat → Int32 := mS3 (mP2 r f Rw Cl).1 Rw Cl (mFm r Rw Cl) (mP2 r f Rw Cl).2 Cl
def mP4 (r : Nat → Int32) (f : Nat → UInt32) (Rw Cl : Nat) : Nat → Int32 := mS4 (mP3 r f Rw Cl) (mFm r Rw Cl) (mP2 r f Rw Cl).2 Cl
def mStR (r : Nat → Int32) (f : Nat → UInt32) (Rw Cl : Nat) : Nat → Int32 := upd (mP4 r f Rw Cl) 2 (mP4 r f Rw Cl 2 + 1)
def mStF (r : Nat → Int32) (f : Nat → UInt32) (Rw Cl : Nat) : Nat → UInt32 := (mP1 r f Rw Cl).2.1
def mStN (r : Nat → Int32) (f : Nat → UInt32) (Rw Cl : Nat) : Nat := (mP1 r f Rw Cl).2.2
/-- what a tick asks of the rows -/
def mS (r : Nat → Int32) (f : Nat → UInt32) (Rw Cl : Nat) : Prop := mG r Rw Cl ∧ mShs r ∧ ¬ r 2 < 0 ∧ ¬ r 9 < 0 ∧ mTy r ∧ ¬ r 16 < 0 ∧ cN (r 16) ≤ 20 ∧ mFo f ∧ fR (f 6)
def mStepOK (r : Nat → Int32) (f : Nat → UInt32) (Rw Cl : Nat) : Prop := ∀ i, i ≤ Cl → mS (mS1 r f (Rw * Cl) (mFm r Rw Cl) (mSb r Rw Cl) i).1 (mS1 r f (Rw * Cl) (mFm r Rw Cl) (mSb r Rw Cl) i).2.1 Rw Cl
theorem mS_upd {r : Nat → Int32} {f : Nat → UInt32} {Rw Cl k : Nat} {x : Int32} (hk : 18 < k) (h : mS r f Rw Cl) : mS (upd r k x) f Rw Cl := by
  obtain ⟨h1, h2, h3, h4, h5, h6, h7, h8⟩ := h
  have e : ∀ j, j ≤ 18 → upd r k x j = r j := fun j hj => pk_un (by omega)
  refine ⟨mG_upd (by omega) h1, fun q hq => ?_, by rw [e 2 (by omega)]; exact h3, by rw [e 9 (by omega)]; exact h4, fun q hq => by rw [e _ (by omega)]; exact h5 q hq, by rw [e 16 (by omega)]; exact h6, by rw [e 16 (by omega)]; exact h7, h8⟩
  rw [e _ (by omega)]
  exact h2 q hq
theorem mS2_S {r : Nat → Int32} {f : Nat → UInt32} {Rw Cl fm sb : Nat} (h : mS r f Rw Cl) (c : Nat) : mS (mS2 r fm sb c).1 f Rw Cl := by
  induction c with
  | zero => exact h
  | succ c ih => unfold mS2; split; exact mS_upd (by omega) ih; exact ih
theorem mS3_S {r : Nat → Int32} {f : Nat → UInt32} {Rw Cl fm fr : Nat} (h : mS r f Rw Cl) (c : Nat) : mS (mS3 r Rw Cl fm fr c) f Rw Cl := by
  induction c with
  | zero => exact h
  | succ c ih => unfold mS3; split; exact mS_upd (by omega) ih; exact ih
theorem mS4_S {r : Nat → Int32} {f : Nat → UInt32} {Rw Cl fm fr : Nat} (h : mS r f Rw Cl) (c : Nat) : mS (mS4 r fm fr c) f Rw Cl := by
  induction c with
  | zero => exact h
  | succ c ih => unfold mS4; split; exact mS_upd (by omega) (mS_upd (by omega) ih); exact ih
theorem mS2_lt {r : Nat → Int32} {fm sb c : Nat} (hc : c ≤ 8) : (mS2 r fm sb c).2 < 256 := by
  induction c with
  | zero => show 0 < 256; decide
  | succ c ih =>
    have ih := ih (by omega)
    unfold mS2; split
    · exact Nat.or_lt_two_pow (n := 8) ih (Nat.pow_lt_pow_right (by decide) (by omega))
    · exact ih
theorem mS1_le {r : Nat → Int32} {f : Nat → UInt32} {n fm sb c : Nat} : (mS1 r f n fm sb c).2.2 ≤ c := by
  induction c with
  | zero => exact Nat.le_refl _
  | succ c ih => unfold mS1; split; exact Nat.succ_le_succ ih; omega
theorem mFm_le {r : Nat → Int32} {Rw Cl : Nat} (h : 0 < Rw) : mFm r Rw Cl + Cl ≤ Rw * Cl := by
  unfold mFm
  have h1 : cN (r 2) % Rw + 1 ≤ Rw := Nat.mod_lt _ h
  have h2 := Nat.mul_le_mul_right Cl h1
  rw [Nat.succ_mul] at h2
  exact h2
theorem mFm_div {r : Nat → Int32} {Rw Cl : Nat} (h : 0 < Rw) (hC : 0 < Cl) : mFm r Rw Cl / Cl < Rw := by
  unfold mFm
  rw [Nat.mul_div_cancel _ hC]
  exact Nat.mod_lt _ h
theorem row_le {a Rw Cl : Nat} (h : a < Rw) : Cl * a + Cl ≤ Rw * Cl := by
  have := Nat.mul_le_mul_left Cl (show a + 1 ≤ Rw from h)
  rw [Nat.mul_add, Nat.mul_one, Nat.mul_comm Cl Rw] at this
  exact this
set_option maxHeartbeats 4000000 in
set_option maxRecDepth 100000 in
theorem mr_closesCorner (l : Launch) (G : oG) (ad : Nat → Nat) (iS : Int32) (iA : Int32) (iL : Int32) (iT : Int32) (iC : Int32) (iR : Int32) (r : Nat → Int32) (pr : Nat → Int32) (ar : Nat → Int32) (br : Nat → Int32) (f : Nat → UInt32) (pf : Nat → UInt32) (af : Nat → UInt32) (bf : Nat → UInt32) (tx : Nat → Int32) (k : Nat) (Rw Cl : Nat) (hg : mG r Rw Cl) (hk : k < Rw * Cl) : Met l yX5_closesCorner (ws_ yX5_closesCorner cX5_closesCorner 7 (some .boolean)) ({ frames := 1, cells := 0, slots := 0, locals := 21 }) (oPc G [.ref (ad 0), .int (nI k)] (fun H => va_P G.1 cl0 (mW G ad iS iA iL iT iC iR r pr ar br f pf af bf tx) H)) (oR (some (.int (zB (mCorner r Rw Cl k))))) 0 0 (fun _ => False) := by
  refine Met.ofW (cc := cX5_closesCorner) (maxL := 7) (ret := (some .boolean)) (by decide) rfl ?_
  intro p e s m args below meth c s₁ B hml hv
  obtain ⟨rfl, hP, hE⟩ := hv
  have hx := B.exec
  have hb := B.bytes
  have hr := B.returns
  have hts := atoms_spec (ws := ws_ yX5_closesCorner cX5_closesCorner 7 (some .boolean)) B.pre
  have hts : ∀ w ∈ lw_all, w.before _ s = true := fun w h => hts w (List.mem_cons_of_mem _ h)
  have hown : s.vm.findClass RX5 = some m.cls := findClass_of_methodNamed B.named
  have hlocks := B.notSynchronized
  have hl := lv_entry ([.ref (ad 0), .int (nI k)]) (n := 7) (Nat.le_of_ble_eq_true rfl)
  rw [lg_entry_eq]
  generalize (lg_sl ([.ref (ad 0), .int (nI k)]) ++ List.replicate (7 - (lg_sl ([.ref (ad 0), .int (nI k)])).length) Slot.unset).toArray = ls at hl ⊢
  replace hl : lv_has ls 7 [(0, .ref (ad 0)), (1, .int (nI k))] := hl
  have hgn := mG_n hg
  have hg' := hg
  obtain ⟨hg0, hg1, hg2, hg3, hg4, hg5⟩ := hg'
  have hd1 : k / Cl < Rw := (Nat.div_lt_iff_lt_mul (by omega)).mpr hk
  have hd2 : k % Cl < Cl := Nat.mod_lt _ (by omega)
  have hrc : Cl * (k / Cl) + Cl ≤ Rw * Cl := row_le hd1
  refine lv_iload_n hx hb dX5_closesCorner_0 rfl (lv_at hl 1 rfl) ?_
  refine lv_aload_n hx hb dX5_closesCorner_1 rfl (lv_at hl 0 rfl) ?_
  refine va_get (D := G.1) (ci := 12) (v := .ref (ad 1)) (C := RX5) (T := TX5) (N := 15) hx hb hts in_X5 hown hE.1 hP 0 rfl rfl 0 (by decide) (hts _ q1135) (fun _ h9 => h9) rfl dX5_closesCorner_2 ?_
  refine lv_iconst (v := 1) hx hb dX5_closesCorner_5 (by decide) ?_
  refine ol_iald hx hb hE.1 hP 1 0 rfl rfl 1 (by decide) (by decide) dX5_closesCorner_6 ?_
  refine ol_top (y := nI Cl) hg1 ?_
  refine ol_idiv hx hb k Cl (by omega) (by omega) (by omega) dX5_closesCorner_7 ?_
  refine lv_istore_n (lv' := [(2, .int (nI (k / Cl))), (0, .ref (ad 0)), (1, .int (nI k))]) hx hb dX5_closesCorner_8 rfl hl (by decide) rfl (fun ls hl => ?_)
  refine lv_iload_n hx hb dX5_closesCorner_9 rfl (lv_at hl 2 rfl) ?_
  refine lv_aload_n hx hb dX5_closesCorner_10 rfl (lv_at hl 1 rfl) ?_
  refine va_get (D := G.1) (ci := 12) (v := .ref (ad 1)) (C := RX5) (T := TX5) (N := 15) hx hb hts in_X5 hown hE.1 hP 0 rfl rfl 0 (by decide) (hts _ q1135) (fun _ h9 => h9) rfl dX5_closesCorner_11 ?_
  refine lv_iconst (v := 1) hx hb dX5_closesCorner_14 (by decide) ?_
  refine ol_iald hx hb hE.1 hP 1 0 rfl rfl 1 (by decide) (by decide) dX5_closesCorner_15 ?_
  refine ol_top (y := nI Cl) hg1 ?_
  refine ol_irem hx hb k Cl (by omega) (by omega) (by omega) dX5_closesCorner_16 ?_
  refine lv_istore_n (lv' := [(3, .int (nI (k % Cl))), (2, .int (nI (k / Cl))), (0, .ref (ad 0)), (1, .int (nI k))]) hx hb dX5_closesCorner_17 rfl hl (by decide) rfl (fun ls hl => ?_)
  refine lv_iconst (v := 0) hx hb dX5_closesCorner_18 (by decide) ?_
  refine lv_istore (lv' := [(4, .int 0), (3, .int (nI (k % Cl))), (2, .int (nI (k / Cl))), (0, .ref (ad 0)), (1, .int (nI k))]) hx hb dX5_closesCorner_19 hl (by decide) rfl (fun ls hl => ?_)
  refine lv_iconst (v := 0) hx hb dX5_closesCorner_21 (by decide) ?_
  refine lv_istore (lv' := [(5, .int 0), (4, .int 0), (3, .int (nI (k % Cl))), (2, .int (nI (k / Cl))), (0, .ref (ad 0)), (1, .int (nI k))]) hx hb dX5_closesCorner_22 hl (by decide) rfl (fun ls hl => ?_)
  obtain ⟨i1, hi1, hl1⟩ : ∃ i1 : Nat, i1 ≤ Rw ∧ lv_has ls 7 [(5, .int (nI i1)), (3, .int (nI (k % Cl))), (2, .int (nI (k / Cl))), (0, .ref (ad 0)), (1, .int (nI k)), (4, .int (zB (mCcO r Cl k i1)))] := ⟨0, by omega, lv_sub hl [0, 2, 3, 4, 5, 1] rfl⟩
  clear hl; have hl := hl1; clear hl1
  obtain ⟨d1, hd1⟩ : ∃ d1 : Nat, Rw < i1 + d1 := ⟨Rw + 1, by omega⟩
  induction d1 generalizing i1 ls with
  | zero => exact absurd hd1 (by omega)
  | succ d1 ih1 =>
    have hro : i1 < Rw → Cl * i1 + Cl ≤ Rw * Cl := row_le
    refine lv_iload hx hb dX5_closesCorner_24 (lv_at hl 0 rfl) ?_
    refine lv_aload_n hx hb dX5_closesCorner_26 rfl (lv_at hl 3 rfl) ?_
    refine va_get (D := G.1) (ci := 12) (v := .ref (ad 1)) (C := RX5) (T := TX5) (N := 15) hx hb hts in_X5 hown hE.1 hP 0 rfl rfl 0 (by decide) (hts _ q1135) (fun _ h9 => h9) rfl dX5_closesCorner_27 ?_
    refine lv_iconst (v := 0) hx hb dX5_closesCorner_30 (by decide) ?_
    refine ol_iald hx hb hE.1 hP 1 0 rfl rfl 0 (by decide) (by decide) dX5_closesCorner_31 ?_
    refine ol_top (y := nI Rw) hg0 ?_
    refine ol_icmp_ge hx hb i1 Rw (by omega) (by omega) (tgt := 140) dX5_closesCorner_32 (by decide) (fun c_32 => ?_) (fun c_32 => ?_)
    · refine lv_iload hx hb dX5_closesCorner_140 (lv_at hl 5 rfl) ?_
      exact ol_zretR hx hb hr hlocks rfl (by rw [show i1 = Rw by omega]; rfl) dX5_closesCorner_142
    · refine lv_iconst (v := 0) hx hb dX5_closesCorner_35 (by decide) ?_
      refine lv_istore (lv' := [(6, .int 0), (5, .int (nI i1)), (3, .int (nI (k % Cl))), (2, .int (nI (k / Cl))), (0, .ref (ad 0)), (1, .int (nI k)), (4, .int (zB (mCcO r Cl k i1)))]) hx hb dX5_closesCorner_36 hl (by decide) rfl (fun ls hl => ?_)
      obtain ⟨i2, hi2, hl1⟩ : ∃ i2 : Nat, i2 ≤ Cl ∧ lv_has ls 7 [(6, .int (nI i2)), (5, .int (nI i1)), (3, .int (nI (k % Cl))), (2, .int (nI (k / Cl))), (0, .ref (ad 0)), (1, .int (nI k)), (4, .int (zB (mCcO r Cl k i1 || mCcI r Cl k i1 i2)))] := ⟨0, by omega, (by rw [mCcI_0, Bool.or_false]; exact lv_sub hl [0, 1, 2, 3, 4, 5, 6] rfl)⟩
      clear hl; have hl := hl1; clear hl1
      obtain ⟨d2, hd2⟩ : ∃ d2 : Nat, Cl < i2 + d2 := ⟨Cl + 1, by omega⟩
      induction d2 generalizing i2 ls with
      | zero => exact absurd hd2 (by omega)
      | succ d2 ih2 =>
        have hro1 := hro c_32
        refine lv_iload hx hb dX5_closesCorner_38 (lv_at hl 0 rfl) ?_
        refine lv_aload_n hx hb dX5_closesCorner_40 rfl (lv_at hl 4 rfl) ?_
        refine va_get (D := G.1) (ci := 12) (v := .ref (ad 1)) (C := RX5) (T := TX5) (N := 15) hx hb hts in_X5 hown hE.1 hP 0 rfl rfl 0 (by decide) (hts _ q1135) (fun _ h9 => h9) rfl dX5_closesCorner_41 ?_
        refine lv_iconst (v := 1) hx hb dX5_closesCorner_44 (by decide) ?_
        refine ol_iald hx hb hE.1 hP 1 0 rfl rfl 1 (by decide) (by decide) dX5_closesCorner_45 ?_
        refine ol_top (y := nI Cl) hg1 ?_
        refine ol_icmp_ge hx hb i2 Cl (by omega) (by omega) (tgt := 134) dX5_closesCorner_46 (by decide) (fun c_46 => ?_) (fun c_46 => ?_)
        · refine ol_iinc (k := 1) (lv' := [(5, .int (nI (i1 + 1))), (6, .int (nI i2)), (3, .int (nI (k % Cl))), (2, .int (nI (k / Cl))), (0, .ref (ad 0)), (1, .int (nI k)), (4, .int (zB (mCcO r Cl k i1 || mCcI r Cl k i1 i2)))]) hx hb 1 i1 dX5_closesCorner_134 hl rfl (by decide) rfl (fun ls hl => ?_)
          refine lv_goto (tgt := 24) hx hb dX5_closesCorner_137 (by decide) ?_
          have hl : lv_has ls 7 [(5, .int (nI (i1 + 1))), (3, .int (nI (k % Cl))), (2, .int (nI (k / Cl))), (0, .ref (ad 0)), (1, .int (nI k)), (4, .int (zB (mCcO r Cl k (i1 + 1))))] := by
            rw [mCcO_s]
            rw [show i2 = Cl from by omega] at hl
            exact lv_sub hl [0, 2, 3, 4, 5, 6] rfl
          exact ih1 ls (i1 + 1) (by omega) hl (by omega)
        · refine lv_iload hx hb dX5_closesCorner_49 (lv_at hl 1 rfl) ?_
          refine lv_iload_n hx hb dX5_closesCorner_51 rfl (lv_at hl 3 rfl) ?_
          refine ol_icmp_eq hx hb i1 (k / Cl) (by omega) (by omega) (tgt := 134) dX5_closesCorner_52 (by decide) (fun c_52 => ?_) (fun c_52 => ?_)
          · refine ol_iinc (k := 1) (lv' := [(5, .int (nI (i1 + 1))), (6, .int (nI i2)), (3, .int (nI (k % Cl))), (2, .int (nI (k / Cl))), (0, .ref (ad 0)), (1, .int (nI k)), (4, .int (zB (mCcO r Cl k i1 || mCcI r Cl k i1 i2)))]) hx hb 1 i1 dX5_closesCorner_134 hl rfl (by decide) rfl (fun ls hl => ?_)
            refine lv_goto (tgt := 24) hx hb dX5_closesCorner_137 (by decide) ?_
            have hl : lv_has ls 7 [(5, .int (nI (i1 + 1))), (3, .int (nI (k % Cl))), (2, .int (nI (k / Cl))), (0, .ref (ad 0)), (1, .int (nI k)), (4, .int (zB (mCcO r Cl k (i1 + 1))))] := by
              rw [mCcO_s]
              rw [mCcI_same r Cl k i2 c_52] at hl; rw [mCcI_same r Cl k Cl c_52]
              exact lv_sub hl [0, 2, 3, 4, 5, 6] rfl
            exact ih1 ls (i1 + 1) (by omega) hl (by omega)
          · refine lv_iload hx hb dX5_closesCorner_55 (lv_at hl 6 rfl) ?_
            refine ol_if_neB hx hb (mCcO r Cl k i1 || mCcI r Cl k i1 i2) (tgt := 121) dX5_closesCorner_57 (by decide) (fun c_57 => ?_) (fun c_57 => ?_)
            · refine lv_iconst (v := 1) hx hb dX5_closesCorner_121 (by decide) ?_
              refine lv_goto (tgt := 126) hx hb dX5_closesCorner_122 (by decide) ?_
              refine lv_istore (lv' := [(4, .int 1), (6, .int (nI i2)), (5, .int (nI i1)), (3, .int (nI (k % Cl))), (2, .int (nI (k / Cl))), (0, .ref (ad 0)), (1, .int (nI k))]) hx hb dX5_closesCorner_126 hl (by decide) rfl (fun ls hl => ?_)
              refine ol_iinc (k := 1) (lv' := [(6, .int (nI (i2 + 1))), (4, .int 1), (5, .int (nI i1)), (3, .int (nI (k % Cl))), (2, .int (nI (k / Cl))), (0, .ref (ad 0)), (1, .int (nI k))]) hx hb 1 i2 dX5_closesCorner_128 hl rfl (by decide) rfl (fun ls hl => ?_)
              refine lv_goto (tgt := 38) hx hb dX5_closesCorner_131 (by decide) ?_
              have hl : lv_has ls 7 [(6, .int (nI (i2 + 1))), (5, .int (nI i1)), (3, .int (nI (k % Cl))), (2, .int (nI (k / Cl))), (0, .ref (ad 0)), (1, .int (nI k)), (4, .int (zB (mCcO r Cl k i1 || mCcI r Cl k i1 (i2 + 1))))] := by
                rw [show zB (mCcO r Cl k i1 || mCcI r Cl k i1 (i2 + 1)) = 1 from by rw [mCcI_s, ← Bool.or_assoc, c_57]; simp [zB, c_32, Nat.not_le.mpr c_32, c_46, Nat.not_le.mpr c_46, c_52]]
                exact lv_sub hl [0, 2, 3, 4, 5, 6, 1] rfl
              exact ih2 ls (i2 + 1) (by omega) hl (by omega)
            · refine lv_iload hx hb dX5_closesCorner_60 (lv_at hl 0 rfl) ?_
              refine lv_iload_n hx hb dX5_closesCorner_62 rfl (lv_at hl 2 rfl) ?_
              refine ol_icmp_eq hx hb i2 (k % Cl) (by omega) (by omega) (tgt := 125) dX5_closesCorner_63 (by decide) (fun c_63 => ?_) (fun c_63 => ?_)
              · refine lv_iconst (v := 0) hx hb dX5_closesCorner_125 (by decide) ?_
                refine lv_istore (lv' := [(4, .int 0), (6, .int (nI i2)), (5, .int (nI i1)), (3, .int (nI (k % Cl))), (2, .int (nI (k / Cl))), (0, .ref (ad 0)), (1, .int (nI k))]) hx hb dX5_closesCorner_126 hl (by decide) rfl (fun ls hl => ?_)
                refine ol_iinc (k := 1) (lv' := [(6, .int (nI (i2 + 1))), (4, .int 0), (5, .int (nI i1)), (3, .int (nI (k % Cl))), (2, .int (nI (k / Cl))), (0, .ref (ad 0)), (1, .int (nI k))]) hx hb 1 i2 dX5_closesCorner_128 hl rfl (by decide) rfl (fun ls hl => ?_)
                refine lv_goto (tgt := 38) hx hb dX5_closesCorner_131 (by decide) ?_
                have hl : lv_has ls 7 [(6, .int (nI (i2 + 1))), (5, .int (nI i1)), (3, .int (nI (k % Cl))), (2, .int (nI (k / Cl))), (0, .ref (ad 0)), (1, .int (nI k)), (4, .int (zB (mCcO r Cl k i1 || mCcI r Cl k i1 (i2 + 1))))] := by
                  rw [show zB (mCcO r Cl k i1 || mCcI r Cl k i1 (i2 + 1)) = 0 from by rw [mCcI_s, ← Bool.or_assoc, c_57]; simp [zB, c_32, Nat.not_le.mpr c_32, c_46, Nat.not_le.mpr c_46, c_52, c_63]]
                  exact lv_sub hl [0, 2, 3, 4, 5, 6, 1] rfl
                exact ih2 ls (i2 + 1) (by omega) hl (by omega)
              · refine lv_aload_n hx hb dX5_closesCorner_66 rfl (lv_at hl 4 rfl) ?_
                refine lv_aload_n hx hb dX5_closesCorner_67 rfl (lv_at hl 4 rfl) ?_
                refine va_get (D := G.1) (ci := 12) (v := .ref (ad 1)) (C := RX5) (T := TX5) (N := 15) hx hb hts in_X5 hown hE.1 hP 0 rfl rfl 0 (by decide) (hts _ q1135) (fun _ h9 => h9) rfl dX5_closesCorner_68 ?_
                refine lv_iconst (v := 1) hx hb dX5_closesCorner_71 (by decide) ?_
                refine ol_iald hx hb hE.1 hP 1 0 rfl rfl 1 (by decide) (by decide) dX5_closesCorner_72 ?_
                refine ol_top (y := nI Cl) hg1 ?_
                refine lv_iload_n hx hb dX5_closesCorner_73 rfl (lv_at hl 3 rfl) ?_
                refine ol_imul hx hb Cl (k / Cl) dX5_closesCorner_74 ?_
                refine lv_iload hx hb dX5_closesCorner_75 (lv_at hl 0 rfl) ?_
                refine ol_iadd hx hb (Cl * (k / Cl)) i2 dX5_closesCorner_77 ?_
                refine ol_cR (st1 := [.int (zB (sn r (Cl * (k / Cl) + i2)))]) (va_runV (As := [.int (nI (Cl * (k / Cl) + i2))]) (rest := []) ⟨hx, hb, hml, hown, hts⟩ (mr_isSeen l G ad iS iA iL iT iC iR r pr ar br f pf af bf tx (Cl * (k / Cl) + i2) (by omega)) (cwV 1 hts (lw_V q1221 q1223 qs27 q73 q1224) rfl rfl rfl (by decide +kernel) ⟨Nat.le_of_ble_eq_true rfl, Nat.le_of_ble_eq_true rfl⟩) (oPc.preV hE (hE.recv (ci := 12) (hP 0 _ rfl) rfl) hP) rfl rfl hl.1 rfl (lv_room (Nat.le_of_ble_eq_true rfl)) dX5_closesCorner_78 ⟨Nat.le_of_ble_eq_true rfl, Nat.le_of_ble_eq_true rfl⟩) rfl ?_
                refine ol_if_eqB hx hb (sn r (Cl * (k / Cl) + i2)) (tgt := 125) dX5_closesCorner_81 (by decide) (fun c_81 => ?_) (fun c_81 => ?_)
                · refine lv_iconst (v := 0) hx hb dX5_closesCorner_125 (by decide) ?_
                  refine lv_istore (lv' := [(4, .int 0), (6, .int (nI i2)), (5, .int (nI i1)), (3, .int (nI (k % Cl))), (2, .int (nI (k / Cl))), (0, .ref (ad 0)), (1, .int (nI k))]) hx hb dX5_closesCorner_126 hl (by decide) rfl (fun ls hl => ?_)
                  refine ol_iinc (k := 1) (lv' := [(6, .int (nI (i2 + 1))), (4, .int 0), (5, .int (nI i1)), (3, .int (nI (k % Cl))), (2, .int (nI (k / Cl))), (0, .ref (ad 0)), (1, .int (nI k))]) hx hb 1 i2 dX5_closesCorner_128 hl rfl (by decide) rfl (fun ls hl => ?_)
                  refine lv_goto (tgt := 38) hx hb dX5_closesCorner_131 (by decide) ?_
                  have hl : lv_has ls 7 [(6, .int (nI (i2 + 1))), (5, .int (nI i1)), (3, .int (nI (k % Cl))), (2, .int (nI (k / Cl))), (0, .ref (ad 0)), (1, .int (nI k)), (4, .int (zB (mCcO r Cl k i1 || mCcI r Cl k i1 (i2 + 1))))] := by
                    rw [show zB (mCcO r Cl k i1 || mCcI r Cl k i1 (i2 + 1)) = 0 from by rw [mCcI_s, ← Bool.or_assoc, c_57]; simp [zB, c_32, Nat.not_le.mpr c_32, c_46, Nat.not_le.mpr c_46, c_52, c_63, c_81]]
                    exact lv_sub hl [0, 2, 3, 4, 5, 6, 1] rfl
                  exact ih2 ls (i2 + 1) (by omega) hl (by omega)
                · refine lv_aload_n hx hb dX5_closesCorner_84 rfl (lv_at hl 4 rfl) ?_
                  refine lv_aload_n hx hb dX5_closesCorner_85 rfl (lv_at hl 4 rfl) ?_
                  refine va_get (D := G.1) (ci := 12) (v := .ref (ad 1)) (C := RX5) (T := TX5) (N := 15) hx hb hts in_X5 hown hE.1 hP 0 rfl rfl 0 (by decide) (hts _ q1135) (fun _ h9 => h9) rfl dX5_closesCorner_86 ?_
                  refine lv_iconst (v := 1) hx hb dX5_closesCorner_89 (by decide) ?_
                  refine ol_iald hx hb hE.1 hP 1 0 rfl rfl 1 (by decide) (by decide) dX5_closesCorner_90 ?_
                  refine ol_top (y := nI Cl) hg1 ?_
                  refine lv_iload hx hb dX5_closesCorner_91 (lv_at hl 1 rfl) ?_
                  refine ol_imul hx hb Cl i1 dX5_closesCorner_93 ?_
                  refine lv_iload_n hx hb dX5_closesCorner_94 rfl (lv_at hl 2 rfl) ?_
                  refine ol_iadd hx hb (Cl * i1) (k % Cl) dX5_closesCorner_95 ?_
                  refine ol_cR (st1 := [.int (zB (sn r (Cl * i1 + (k % Cl))))]) (va_runV (As := [.int (nI (Cl * i1 + (k % Cl)))]) (rest := []) ⟨hx, hb, hml, hown, hts⟩ (mr_isSeen l G ad iS iA iL iT iC iR r pr ar br f pf af bf tx (Cl * i1 + (k % Cl)) (by omega)) (cwV 1 hts (lw_V q1221 q1223 qs27 q73 q1224) rfl rfl rfl (by decide +kernel) ⟨Nat.le_of_ble_eq_true rfl, Nat.le_of_ble_eq_true rfl⟩) (oPc.preV hE (hE.recv (ci := 12) (hP 0 _ rfl) rfl) hP) rfl rfl hl.1 rfl (lv_room (Nat.le_of_ble_eq_true rfl)) dX5_closesCorner_96 ⟨Nat.le_of_ble_eq_true rfl, Nat.le_of_ble_eq_true rfl⟩) rfl ?_
                  refine ol_if_eqB hx hb (sn r (Cl * i1 + (k % Cl))) (tgt := 125) dX5_closesCorner_99 (by decide) (fun c_99 => ?_) (fun c_99 => ?_)
                  · refine lv_iconst (v := 0) hx hb dX5_closesCorner_125 (by decide) ?_
                    refine lv_istore (lv' := [(4, .int 0), (6, .int (nI i2)), (5, .int (nI i1)), (3, .int (nI (k % Cl))), (2, .int (nI (k / Cl))), (0, .ref (ad 0)), (1, .int (nI k))]) hx hb dX5_closesCorner_126 hl (by decide) rfl (fun ls hl => ?_)
                    refine ol_iinc (k := 1) (lv' := [(6, .int (nI (i2 + 1))), (4, .int 0), (5, .int (nI i1)), (3, .int (nI (k % Cl))), (2, .int (nI (k / Cl))), (0, .ref (ad 0)), (1, .int (nI k))]) hx hb 1 i2 dX5_closesCorner_128 hl rfl (by decide) rfl (fun ls hl => ?_)
                    refine lv_goto (tgt := 38) hx hb dX5_closesCorner_131 (by decide) ?_
                    have hl : lv_has ls 7 [(6, .int (nI (i2 + 1))), (5, .int (nI i1)), (3, .int (nI (k % Cl))), (2, .int (nI (k / Cl))), (0, .ref (ad 0)), (1, .int (nI k)), (4, .int (zB (mCcO r Cl k i1 || mCcI r Cl k i1 (i2 + 1))))] := by
                      rw [show zB (mCcO r Cl k i1 || mCcI r Cl k i1 (i2 + 1)) = 0 from by rw [mCcI_s, ← Bool.or_assoc, c_57]; simp [zB, c_32, Nat.not_le.mpr c_32, c_46, Nat.not_le.mpr c_46, c_52, c_63, c_81, c_99]]
                      exact lv_sub hl [0, 2, 3, 4, 5, 6, 1] rfl
                    exact ih2 ls (i2 + 1) (by omega) hl (by omega)
                  · refine lv_aload_n hx hb dX5_closesCorner_102 rfl (lv_at hl 4 rfl) ?_
                    refine lv_aload_n hx hb dX5_closesCorner_103 rfl (lv_at hl 4 rfl) ?_
                    refine va_get (D := G.1) (ci := 12) (v := .ref (ad 1)) (C := RX5) (T := TX5) (N := 15) hx hb hts in_X5 hown hE.1 hP 0 rfl rfl 0 (by decide) (hts _ q1135) (fun _ h9 => h9) rfl dX5_closesCorner_104 ?_
                    refine lv_iconst (v := 1) hx hb dX5_closesCorner_107 (by decide) ?_
                    refine ol_iald hx hb hE.1 hP 1 0 rfl rfl 1 (by decide) (by decide) dX5_closesCorner_108 ?_
                    refine ol_top (y := nI Cl) hg1 ?_
                    refine lv_iload hx hb dX5_closesCorner_109 (lv_at hl 1 rfl) ?_
                    refine ol_imul hx hb Cl i1 dX5_closesCorner_111 ?_
                    refine lv_iload hx hb dX5_closesCorner_112 (lv_at hl 0 rfl) ?_
                    refine ol_iadd hx hb (Cl * i1) i2 dX5_closesCorner_114 ?_
                    refine ol_cR (st1 := [.int (zB (sn r (Cl * i1 + i2)))]) (va_runV (As := [.int (nI (Cl * i1 + i2))]) (rest := []) ⟨hx, hb, hml, hown, hts⟩ (mr_isSeen l G ad iS iA iL iT iC iR r pr ar br f pf af bf tx (Cl * i1 + i2) (by omega)) (cwV 1 hts (lw_V q1221 q1223 qs27 q73 q1224) rfl rfl rfl (by decide +kernel) ⟨Nat.le_of_ble_eq_true rfl, Nat.le_of_ble_eq_true rfl⟩) (oPc.preV hE (hE.recv (ci := 12) (hP 0 _ rfl) rfl) hP) rfl rfl hl.1 rfl (lv_room (Nat.le_of_ble_eq_true rfl)) dX5_closesCorner_115 ⟨Nat.le_of_ble_eq_true rfl, Nat.le_of_ble_eq_true rfl⟩) rfl ?_
                    refine ol_if_eqB hx hb (sn r (Cl * i1 + i2)) (tgt := 125) dX5_closesCorner_118 (by decide) (fun c_118 => ?_) (fun c_118 => ?_)
                    · refine lv_iconst (v := 0) hx hb dX5_closesCorner_125 (by decide) ?_
                      refine lv_istore (lv' := [(4, .int 0), (6, .int (nI i2)), (5, .int (nI i1)), (3, .int (nI (k % Cl))), (2, .int (nI (k / Cl))), (0, .ref (ad 0)), (1, .int (nI k))]) hx hb dX5_closesCorner_126 hl (by decide) rfl (fun ls hl => ?_)
                      refine ol_iinc (k := 1) (lv' := [(6, .int (nI (i2 + 1))), (4, .int 0), (5, .int (nI i1)), (3, .int (nI (k % Cl))), (2, .int (nI (k / Cl))), (0, .ref (ad 0)), (1, .int (nI k))]) hx hb 1 i2 dX5_closesCorner_128 hl rfl (by decide) rfl (fun ls hl => ?_)
                      refine lv_goto (tgt := 38) hx hb dX5_closesCorner_131 (by decide) ?_
                      have hl : lv_has ls 7 [(6, .int (nI (i2 + 1))), (5, .int (nI i1)), (3, .int (nI (k % Cl))), (2, .int (nI (k / Cl))), (0, .ref (ad 0)), (1, .int (nI k)), (4, .int (zB (mCcO r Cl k i1 || mCcI r Cl k i1 (i2 + 1))))] := by
                        rw [show zB (mCcO r Cl k i1 || mCcI r Cl k i1 (i2 + 1)) = 0 from by rw [mCcI_s, ← Bool.or_assoc, c_57]; simp [zB, c_32, Nat.not_le.mpr c_32, c_46, Nat.not_le.mpr c_46, c_52, c_63, c_81, c_99, c_118]]
                        exact lv_sub hl [0, 2, 3, 4, 5, 6, 1] rfl
                      exact ih2 ls (i2 + 1) (by omega) hl (by omega)
                    · refine lv_iconst (v := 1) hx hb dX5_closesCorner_121 (by decide) ?_
                      refine lv_goto (tgt := 126) hx hb dX5_closesCorner_122 (by decide) ?_
                      refine lv_istore (lv' := [(4, .int 1), (6, .int (nI i2)), (5, .int (nI i1)), (3, .int (nI (k % Cl))), (2, .int (nI (k / Cl))), (0, .ref (ad 0)), (1, .int (nI k))]) hx hb dX5_closesCorner_126 hl (by decide) rfl (fun ls hl => ?_)
                      refine ol_iinc (k := 1) (lv' := [(6, .int (nI (i2 + 1))), (4, .int 1), (5, .int (nI i1)), (3, .int (nI (k % Cl))), (2, .int (nI (k / Cl))), (0, .ref (ad 0)), (1, .int (nI k))]) hx hb 1 i2 dX5_closesCorner_128 hl rfl (by decide) rfl (fun ls hl => ?_)
                      refine lv_goto (tgt := 38) hx hb dX5_closesCorner_131 (by decide) ?_
                      have hl : lv_has ls 7 [(6, .int (nI (i2 + 1))), (5, .int (nI i1)), (3, .int (nI (k % Cl))), (2, .int (nI (k / Cl))), (0, .ref (ad 0)), (1, .int (nI k)), (4, .int (zB (mCcO r Cl k i1 || mCcI r Cl k i1 (i2 + 1))))] := by
                        rw [show zB (mCcO r Cl k i1 || mCcI r Cl k i1 (i2 + 1)) = 1 from by rw [mCcI_s, ← Bool.or_assoc, c_57]; simp [zB, c_32, Nat.not_le.mpr c_32, c_46, Nat.not_le.mpr c_46, c_52, c_63, c_81, c_99, c_118]]
                        exact lv_sub hl [0, 2, 3, 4, 5, 6, 1] rfl
                      exact ih2 ls (i2 + 1) (by omega) hl (by omega)
set_option maxHeartbeats 4000000 in
set_option maxRecDepth 100000 in
theorem mm_step (l : Launch) (G : oG) (ad : Nat → Nat) (iS : Int32) (iA : Int32) (iL : Int32) (iT : Int32) (iC : Int32) (iR : Int32) (r : Nat → Int32) (pr : Nat → Int32) (ar : Nat → Int32) (br : Nat → Int32) (f : Nat → UInt32) (pf : Nat → UInt32) (af : Nat → UInt32) (bf : Nat → UInt32) (tx : Nat → Int32)  (Rw Cl : Nat) (hok : mStepOK r f Rw Cl) (sz : Nat) : Met l yX5_step (ws_ yX5_step cX5_step 7 (some .int)) ({ frames := 4, cells := 0, slots := 0, locals := 106 }) (oPc G [.ref (ad 0)] (oPE G (mW G ad iS iA iL iT iC iR r pr ar br f pf af bf tx) sz (fun _ => True))) (oE G (fun v_ W_ => v_ = some (.int (nI (mStN r f Rw Cl))) ∧ W_ = mW G ad iS iA iL iT (nI (mDrv r Rw Cl (mFm r Rw Cl / Cl)).2) (nI (mDrv r Rw Cl (mFm r Rw Cl / Cl)).1) (mStR r f Rw Cl) pr ar br (mStF r f Rw Cl) pf af bf tx) (mW G ad iS iA iL iT iC iR r pr ar br f pf af bf tx) sz) 0 0 (va_A (mW G ad iS iA iL iT iC iR r pr ar br f pf af bf tx) sz) := by
  refine Met.ofW (cc := cX5_step) (maxL := 7) (ret := (some .int)) (by decide) rfl ?_
  intro p e s m args below meth c s₁ B hml hv
  obtain ⟨rfl, ⟨hsz, hP, hD0, hX⟩, hE⟩ := hv
  have hx := B.exec
  have hb := B.bytes
  have hr := B.returns
  have hts := atoms_spec (ws := ws_ yX5_step cX5_step 7 (some .int)) B.pre
  have hts : ∀ w ∈ lw_all, w.before _ s = true := fun w h => hts w (List.mem_cons_of_mem _ h)
  have hown : s.vm.findClass RX5 = some m.cls := findClass_of_methodNamed B.named
  have hlocks := B.notSynchronized
  subst hsz
  have hD := hD0.self (sz := s.heap.size)
  have hA : ∀ q : Nat, s.heap.size ≤ q → va_A (mW G ad iS iA iL iT iC iR r pr ar br f pf af bf tx) s.heap.size q := fun q h => Or.inr h
  have hl := lv_entry ([.ref (ad 0)]) (n := 7) (Nat.le_of_ble_eq_true rfl)
  rw [lg_entry_eq]
  generalize (lg_sl ([.ref (ad 0)]) ++ List.replicate (7 - (lg_sl ([.ref (ad 0)])).length) Slot.unset).toArray = ls at hl ⊢
  replace hl : lv_has ls 7 [(0, .ref (ad 0))] := hl
  refine ol_start (A := va_A (mW G ad iS iA iL iT iC iR r pr ar br f pf af bf tx) s.heap.size) (fun H locs hH hS => ?_)
  rw [← hH] at hP
  clear hH
  have hs0 : mS r f Rw Cl := hok 0 (Nat.zero_le _)
  have hg := hs0.1
  have hgn := mG_n hg
  have hg' := hg
  obtain ⟨hg0, hg1, hg2, hg3, hg4, hg5⟩ := hg'
  have hfm := mFm_le (r := r) (Cl := Cl) (by omega : 0 < Rw)
  have hfd := mFm_div (r := r) (Rw := Rw) (Cl := Cl) (by omega) (by omega)
  have hsb := (mDrv_lt (r := r) (q := mFm r Rw Cl / Cl) hg3 ⟨hg4, hg5⟩ (by omega)).2
  obtain ⟨hk1, hk2⟩ := nn_of hs0.2.2.1
  refine lv_aload_n hx hb dX5_step_0 rfl (lv_at hl 0 rfl) ?_
  refine va_get (D := G.1) (ci := 12) (v := .ref (ad 1)) (C := RX5) (T := TX5) (N := 15) hx hb hts in_X5 hown hE.1 hP 0 rfl rfl 0 (by decide) (hts _ q1135) (fun _ h9 => h9) rfl dX5_step_1 ?_
  refine lv_iconst (v := 1) hx hb dX5_step_4 (by decide) ?_
  refine ol_iald hx hb hE.1 hP 1 0 rfl rfl 1 (by decide) (by decide) dX5_step_5 ?_
  refine ol_top (y := nI Cl) hg1 ?_
  refine lv_istore_n (lv' := [(1, .int (nI Cl)), (0, .ref (ad 0))]) hx hb dX5_step_6 rfl hl (by decide) rfl (fun ls hl => ?_)
  refine lv_aload_n hx hb dX5_step_7 rfl (lv_at hl 1 rfl) ?_
  refine va_get (D := G.1) (ci := 12) (v := .ref (ad 1)) (C := RX5) (T := TX5) (N := 15) hx hb hts in_X5 hown hE.1 hP 0 rfl rfl 0 (by decide) (hts _ q1135) (fun _ h9 => h9) rfl dX5_step_8 ?_
  refine lv_iconst (v := 2) hx hb dX5_step_11 (by decide) ?_
  refine ol_iald hx hb hE.1 hP 1 0 rfl rfl 2 (by decide) (by decide) dX5_step_12 ?_
  refine ol_top (y := nI (cN (r 2))) hk1 ?_
  refine lv_aload_n hx hb dX5_step_13 rfl (lv_at hl 1 rfl) ?_
  refine va_get (D := G.1) (ci := 12) (v := .ref (ad 1)) (C := RX5) (T := TX5) (N := 15) hx hb hts in_X5 hown hE.1 hP 0 rfl rfl 0 (by decide) (hts _ q1135) (fun _ h9 => h9) rfl dX5_step_14 ?_
  refine lv_iconst (v := 0) hx hb dX5_step_17 (by decide) ?_
  refine ol_iald hx hb hE.1 hP 1 0 rfl rfl 0 (by decide) (by decide) dX5_step_18 ?_
  refine ol_top (y := nI Rw) hg0 ?_
  refine ol_irem hx hb (cN (r 2)) Rw (by omega) (by omega) (by omega) dX5_step_19 ?_
  refine lv_iload_n hx hb dX5_step_20 rfl (lv_at hl 0 rfl) ?_
  refine ol_imul hx hb ((cN (r 2)) % Rw) Cl dX5_step_21 ?_
  refine ol_top (y := nI (mFm r Rw Cl)) rfl ?_
  refine lv_istore_n (lv' := [(2, .int (nI (mFm r Rw Cl))), (1, .int (nI Cl)), (0, .ref (ad 0))]) hx hb dX5_step_22 rfl hl (by decide) rfl (fun ls hl => ?_)
  refine lv_aload_n hx hb dX5_step_23 rfl (lv_at hl 2 rfl) ?_
  refine lv_iload_n hx hb dX5_step_24 rfl (lv_at hl 0 rfl) ?_
  refine lv_iload_n hx hb dX5_step_25 rfl (lv_at hl 1 rfl) ?_
  refine ol_idiv hx hb (mFm r Rw Cl) Cl (by omega) (by omega) (by omega) dX5_step_26 ?_
  refine ol_cM (st1 := []) (va_runV (As := [.int (nI ((mFm r Rw Cl) / Cl))]) (rest := []) ⟨hx, hb, hml, hown, hts⟩ (mm_drive l G ad iS iA iL iT iC iR r pr ar br f pf af bf tx ((mFm r Rw Cl) / Cl) Rw Cl hg (by omega) H.size) (cwV 1 hts (lw_V q1296 q1298 qs36 q73 q1299) rfl rfl rfl (by decide +kernel) ⟨Nat.le_of_ble_eq_true rfl, Nat.le_of_ble_eq_true rfl⟩) (oPc.preV hE (hE.recv (ci := 12) (hP 0 _ rfl) rfl) ⟨rfl, hP, oD_weak hD (fun _ _ => trivial), trivial⟩) rfl rfl hl.1 rfl (lv_room (Nat.le_of_ble_eq_true rfl)) dX5_step_27 ⟨Nat.le_of_ble_eq_true rfl, Nat.le_of_ble_eq_true rfl⟩) hP hD hS hA rfl (fun H locs hP hD hS => ?_)
  refine lv_aload_n hx hb dX5_step_30 rfl (lv_at hl 2 rfl) ?_
  refine va_get (D := G.1) (ci := 12) (v := .int (nI (mDrv r Rw Cl ((mFm r Rw Cl) / Cl)).2)) (C := RX5) (T := TX5) (N := 15) hx hb hts in_X5 hown hE.1 hP 0 rfl rfl 13 (by decide) (hts _ q1148) (fun _ h9 => h9) rfl dX5_step_31 ?_
  refine ol_top (y := nI (mSb r Rw Cl)) rfl ?_
  refine lv_istore_n (lv' := [(3, .int (nI (mSb r Rw Cl))), (2, .int (nI (mFm r Rw Cl))), (1, .int (nI Cl)), (0, .ref (ad 0))]) hx hb dX5_step_34 rfl hl (by decide) rfl (fun ls hl => ?_)
  refine lv_iconst (v := 0) hx hb dX5_step_35 (by decide) ?_
  refine lv_istore (lv' := [(4, .int 0), (3, .int (nI (mSb r Rw Cl))), (2, .int (nI (mFm r Rw Cl))), (1, .int (nI Cl)), (0, .ref (ad 0))]) hx hb dX5_step_36 hl (by decide) rfl (fun ls hl => ?_)
  refine lv_iconst (v := 0) hx hb dX5_step_38 (by decide) ?_
  refine lv_istore (lv' := [(5, .int 0), (4, .int 0), (3, .int (nI (mSb r Rw Cl))), (2, .int (nI (mFm r Rw Cl))), (1, .int (nI Cl)), (0, .ref (ad 0))]) hx hb dX5_step_39 hl (by decide) rfl (fun ls hl => ?_)
  refine lv_iconst (v := 0) hx hb dX5_step_41 (by decide) ?_
  refine lv_istore (lv' := [(6, .int 0), (5, .int 0), (4, .int 0), (3, .int (nI (mSb r Rw Cl))), (2, .int (nI (mFm r Rw Cl))), (1, .int (nI Cl)), (0, .ref (ad 0))]) hx hb dX5_step_42 hl (by decide) rfl (fun ls hl => ?_)
  have hsb' : mSb r Rw Cl < 256 := hsb
  refine ol_for (P := fun i1 H locs ls => lv_has ls 7 [(6, .int (nI i1)), (5, .int 0), (3, .int (nI (mSb r Rw Cl))), (2, .int (nI (mFm r Rw Cl))), (1, .int (nI Cl)), (0, .ref (ad 0)), (4, .int (nI ((mS1 r f (Rw * Cl) (mFm r Rw Cl) (mSb r Rw Cl) i1).2.2)))] ∧ va_P G.1 cl0 (mW G ad iS iA iL iT (nI (mDrv r Rw Cl ((mFm r Rw Cl) / Cl)).2) (nI (mDrv r Rw Cl ((mFm r Rw Cl) / Cl)).1) ((mS1 r f (Rw * Cl) (mFm r Rw Cl) (mSb r Rw Cl) i1).1) pr ar br ((mS1 r f (Rw * Cl) (mFm r Rw Cl) (mSb r Rw Cl) i1).2.1) pf af bf tx) H ∧ va_D (va_A (mW G ad iS iA iL iT iC iR r pr ar br f pf af bf tx) s.heap.size) (mW G ad iS iA iL iT (nI (mDrv r Rw Cl ((mFm r Rw Cl) / Cl)).2) (nI (mDrv r Rw Cl ((mFm r Rw Cl) / Cl)).1) ((mS1 r f (Rw * Cl) (mFm r Rw Cl) (mSb r Rw Cl) i1).1) pr ar br ((mS1 r f (Rw * Cl) (mFm r Rw Cl) (mSb r Rw Cl) i1).2.1) pf af bf tx) ∧ va_S (va_A (mW G ad iS iA iL iT iC iR r pr ar br f pf af bf tx) s.heap.size) s.heap H locs) (Cl) 0 (by omega) ⟨lv_sub hl [0, 1, 3, 4, 5, 6, 2] rfl, hP, hD, hS⟩ (fun i1 H locs ls hi1 hI ih1 => ?_)
  obtain ⟨hl, hP, hD, hS⟩ := hI
  have hs1 := hok i1 hi1
  obtain ⟨hs1a, hs1b, hs1c, hs1d, hs1e, hs1f, hs1g, hs1h, hs1i⟩ := hs1
  have hle1 := mS1_le (r := r) (f := f) (n := Rw * Cl) (fm := mFm r Rw Cl) (sb := mSb r Rw Cl) (c := i1)
  refine lv_iload hx hb dX5_step_44 (lv_at hl 0 rfl) ?_
  refine lv_iload_n hx hb dX5_step_46 rfl (lv_at hl 4 rfl) ?_
  refine ol_icmp_ge hx hb i1 Cl (by omega) (by omega) (tgt := 87) dX5_step_47 (by decide) (fun c_47 => ?_) (fun c_47 => ?_)
  · have ei1 : Cl = i1 := by omega
    subst ei1
    refine lv_iconst (v := 0) hx hb dX5_step_87 (by decide) ?_
    refine lv_istore (lv' := [(6, .int 0), (5, .int 0), (3, .int (nI (mSb r Rw Cl))), (2, .int (nI (mFm r Rw Cl))), (1, .int (nI Cl)), (0, .ref (ad 0)), (4, .int (nI ((mS1 r f (Rw * Cl) (mFm r Rw Cl) (mSb r Rw Cl) Cl).2.2)))]) hx hb dX5_step_88 hl (by decide) rfl (fun ls hl => ?_)
    replace hP : va_P G.1 cl0 (mW G ad iS iA iL iT (nI (mDrv r Rw Cl ((mFm r Rw Cl) / Cl)).2) (nI (mDrv r Rw Cl ((mFm r Rw Cl) / Cl)).1) ((mP1 r f Rw Cl).1) pr ar br ((mS1 r f (Rw * Cl) (mFm r Rw Cl) (mSb r Rw Cl) Cl).2.1) pf af bf tx) H := hP
    replace hD : va_D (va_A (mW G ad iS iA iL iT iC iR r pr ar br f pf af bf tx) s.heap.size) (mW G ad iS iA iL iT (nI (mDrv r Rw Cl ((mFm r Rw Cl) / Cl)).2) (nI (mDrv r Rw Cl ((mFm r Rw Cl) / Cl)).1) ((mP1 r f Rw Cl).1) pr ar br ((mS1 r f (Rw * Cl) (mFm r Rw Cl) (mSb r Rw Cl) Cl).2.1) pf af bf tx) := mD_any hD
    replace hP : va_P G.1 cl0 (mW G ad iS iA iL iT (nI (mDrv r Rw Cl ((mFm r Rw Cl) / Cl)).2) (nI (mDrv r Rw Cl ((mFm r Rw Cl) / Cl)).1) ((mP1 r f Rw Cl).1) pr ar br (mStF r f Rw Cl) pf af bf tx) H := hP
    replace hD : va_D (va_A (mW G ad iS iA iL iT iC iR r pr ar br f pf af bf tx) s.heap.size) (mW G ad iS iA iL iT (nI (mDrv r Rw Cl ((mFm r Rw Cl) / Cl)).2) (nI (mDrv r Rw Cl ((mFm r Rw Cl) / Cl)).1) ((mP1 r f Rw Cl).1) pr ar br (mStF r f Rw Cl) pf af bf tx) := mD_any hD
    have hs2 : mS (mP1 r f Rw Cl).1 (mStF r f Rw Cl) Rw Cl := hok Cl (Nat.le_refl _)
    have hnle : mStN r f Rw Cl ≤ Cl := mS1_le
    refine ol_for (P := fun i2 H locs ls => lv_has ls 7 [(6, .int (nI i2)), (3, .int (nI (mSb r Rw Cl))), (2, .int (nI (mFm r Rw Cl))), (1, .int (nI Cl)), (0, .ref (ad 0)), (4, .int (nI (mStN r f Rw Cl))), (5, .int (nI ((mS2 (mP1 r f Rw Cl).1 (mFm r Rw Cl) (mSb r Rw Cl) i2).2)))] ∧ va_P G.1 cl0 (mW G ad iS iA iL iT (nI (mDrv r Rw Cl ((mFm r Rw Cl) / Cl)).2) (nI (mDrv r Rw Cl ((mFm r Rw Cl) / Cl)).1) ((mS2 (mP1 r f Rw Cl).1 (mFm r Rw Cl) (mSb r Rw Cl) i2).1) pr ar br (mStF r f Rw Cl) pf af bf tx) H ∧ va_D (va_A (mW G ad iS iA iL iT iC iR r pr ar br f pf af bf tx) s.heap.size) (mW G ad iS iA iL iT (nI (mDrv r Rw Cl ((mFm r Rw Cl) / Cl)).2) (nI (mDrv r Rw Cl ((mFm r Rw Cl) / Cl)).1) ((mS2 (mP1 r f Rw Cl).1 (mFm r Rw Cl) (mSb r Rw Cl) i2).1) pr ar br (mStF r f Rw Cl) pf af bf tx) ∧ va_S (va_A (mW G ad iS iA iL iT iC iR r pr ar br f pf af bf tx) s.heap.size) s.heap H locs) (Cl) 0 (by omega) ⟨lv_sub hl [0, 2, 3, 4, 5, 6, 1] rfl, hP, hD, hS⟩ (fun i2 H locs ls hi2 hI ih2 => ?_)
    obtain ⟨hl, hP, hD, hS⟩ := hI
    have hlt2 := mS2_lt (r := (mP1 r f Rw Cl).1) (fm := mFm r Rw Cl) (sb := mSb r Rw Cl) (c := i2) (by omega)
    refine lv_iload hx hb dX5_step_90 (lv_at hl 0 rfl) ?_
    refine lv_iload_n hx hb dX5_step_92 rfl (lv_at hl 3 rfl) ?_
    refine ol_icmp_ge hx hb i2 Cl (by omega) (by omega) (tgt := 150) dX5_step_93 (by decide) (fun c_93 => ?_) (fun c_93 => ?_)
    · have ei2 : Cl = i2 := by omega
      subst ei2
      refine lv_iconst (v := 0) hx hb dX5_step_150 (by decide) ?_
      refine lv_istore (lv' := [(6, .int 0), (3, .int (nI (mSb r Rw Cl))), (2, .int (nI (mFm r Rw Cl))), (1, .int (nI Cl)), (0, .ref (ad 0)), (4, .int (nI (mStN r f Rw Cl))), (5, .int (nI ((mS2 (mP1 r f Rw Cl).1 (mFm r Rw Cl) (mSb r Rw Cl) Cl).2)))]) hx hb dX5_step_151 hl (by decide) rfl (fun ls hl => ?_)
      replace hP : va_P G.1 cl0 (mW G ad iS iA iL iT (nI (mDrv r Rw Cl ((mFm r Rw Cl) / Cl)).2) (nI (mDrv r Rw Cl ((mFm r Rw Cl) / Cl)).1) ((mP2 r f Rw Cl).1) pr ar br (mStF r f Rw Cl) pf af bf tx) H := hP
      replace hD : va_D (va_A (mW G ad iS iA iL iT iC iR r pr ar br f pf af bf tx) s.heap.size) (mW G ad iS iA iL iT (nI (mDrv r Rw Cl ((mFm r Rw Cl) / Cl)).2) (nI (mDrv r Rw Cl ((mFm r Rw Cl) / Cl)).1) ((mP2 r f Rw Cl).1) pr ar br (mStF r f Rw Cl) pf af bf tx) := mD_any hD
      have hs3 : mS (mP2 r f Rw Cl).1 (mStF r f Rw Cl) Rw Cl := mS2_S hs2 Cl
      have hlt3 : (mP2 r f Rw Cl).2 < 256 := mS2_lt hg5
      refine ol_for (P := fun i3 H locs ls => lv_has ls 7 [(6, .int (nI i3)), (3, .int (nI (mSb r Rw Cl))), (2, .int (nI (mFm r Rw Cl))), (1, .int (nI Cl)), (0, .ref (ad 0)), (4, .int (nI (mStN r f Rw Cl))), (5, .int (nI ((mP2 r f Rw Cl).2)))] ∧ va_P G.1 cl0 (mW G ad iS iA iL iT (nI (mDrv r Rw Cl ((mFm r Rw Cl) / Cl)).2) (nI (mDrv r Rw Cl ((mFm r Rw Cl) / Cl)).1) (mS3 (mP2 r f Rw Cl).1 Rw Cl (mFm r Rw Cl) (mP2 r f Rw Cl).2 i3) pr ar br (mStF r f Rw Cl) pf af bf tx) H ∧ va_D (va_A (mW G ad iS iA iL iT iC iR r pr ar br f pf af bf tx) s.heap.size) (mW G ad iS iA iL iT (nI (mDrv r Rw Cl ((mFm r Rw Cl) / Cl)).2) (nI (mDrv r Rw Cl ((mFm r Rw Cl) / Cl)).1) (mS3 (mP2 r f Rw Cl).1 Rw Cl (mFm r Rw Cl) (mP2 r f Rw Cl).2 i3) pr ar br (mStF r f Rw Cl) pf af bf tx) ∧ va_S (va_A (mW G ad iS iA iL iT iC iR r pr ar br f pf af bf tx) s.heap.size) s.heap H locs) (Cl) 0 (by omega) ⟨lv_sub hl [0, 1, 2, 3, 4, 5, 6] rfl, hP, hD, hS⟩ (fun i3 H locs ls hi3 hI ih3 => ?_)
      obtain ⟨hl, hP, hD, hS⟩ := hI
      have hs3i := mS3_S (fm := mFm r Rw Cl) (fr := (mP2 r f Rw Cl).2) hs3 i3
      refine lv_iload hx hb dX5_step_153 (lv_at hl 0 rfl) ?_
      refine lv_iload_n hx hb dX5_step_155 rfl (lv_at hl 3 rfl) ?_
      refine ol_icmp_ge hx hb i3 Cl (by omega) (by omega) (tgt := 204) dX5_step_156 (by decide) (fun c_156 => ?_) (fun c_156 => ?_)
      · have ei3 : Cl = i3 := by omega
        subst ei3
        refine lv_iconst (v := 0) hx hb dX5_step_204 (by decide) ?_
        refine lv_istore (lv' := [(6, .int 0), (3, .int (nI (mSb r Rw Cl))), (2, .int (nI (mFm r Rw Cl))), (1, .int (nI Cl)), (0, .ref (ad 0)), (4, .int (nI (mStN r f Rw Cl))), (5, .int (nI ((mP2 r f Rw Cl).2)))]) hx hb dX5_step_205 hl (by decide) rfl (fun ls hl => ?_)
        replace hP : va_P G.1 cl0 (mW G ad iS iA iL iT (nI (mDrv r Rw Cl ((mFm r Rw Cl) / Cl)).2) (nI (mDrv r Rw Cl ((mFm r Rw Cl) / Cl)).1) (mP3 r f Rw Cl) pr ar br (mStF r f Rw Cl) pf af bf tx) H := hP
        replace hD : va_D (va_A (mW G ad iS iA iL iT iC iR r pr ar br f pf af bf tx) s.heap.size) (mW G ad iS iA iL iT (nI (mDrv r Rw Cl ((mFm r Rw Cl) / Cl)).2) (nI (mDrv r Rw Cl ((mFm r Rw Cl) / Cl)).1) (mP3 r f Rw Cl) pr ar br (mStF r f Rw Cl) pf af bf tx) := mD_any hD
        have hs4 : mS (mP3 r f Rw Cl) (mStF r f Rw Cl) Rw Cl := mS3_S hs3 Cl
        refine ol_for (P := fun i4 H locs ls => lv_has ls 7 [(6, .int (nI i4)), (3, .int (nI (mSb r Rw Cl))), (2, .int (nI (mFm r Rw Cl))), (1, .int (nI Cl)), (0, .ref (ad 0)), (4, .int (nI (mStN r f Rw Cl))), (5, .int (nI ((mP2 r f Rw Cl).2)))] ∧ va_P G.1 cl0 (mW G ad iS iA iL iT (nI (mDrv r Rw Cl ((mFm r Rw Cl) / Cl)).2) (nI (mDrv r Rw Cl ((mFm r Rw Cl) / Cl)).1) (mS4 (mP3 r f Rw Cl) (mFm r Rw Cl) (mP2 r f Rw Cl).2 i4) pr ar br (mStF r f Rw Cl) pf af bf tx) H ∧ va_D (va_A (mW G ad iS iA iL iT iC iR r pr ar br f pf af bf tx) s.heap.size) (mW G ad iS iA iL iT (nI (mDrv r Rw Cl ((mFm r Rw Cl) / Cl)).2) (nI (mDrv r Rw Cl ((mFm r Rw Cl) / Cl)).1) (mS4 (mP3 r f Rw Cl) (mFm r Rw Cl) (mP2 r f Rw Cl).2 i4) pr ar br (mStF r f Rw Cl) pf af bf tx) ∧ va_S (va_A (mW G ad iS iA iL iT iC iR r pr ar br f pf af bf tx) s.heap.size) s.heap H locs) (Cl) 0 (by omega) ⟨lv_sub hl [0, 1, 2, 3, 4, 5, 6] rfl, hP, hD, hS⟩ (fun i4 H locs ls hi4 hI ih4 => ?_)
        obtain ⟨hl, hP, hD, hS⟩ := hI
        have hs4i := mS4_S (fm := mFm r Rw Cl) (fr := (mP2 r f Rw Cl).2) hs4 i4
        refine lv_iload hx hb dX5_step_207 (lv_at hl 0 rfl) ?_
        refine lv_iload_n hx hb dX5_step_209 rfl (lv_at hl 3 rfl) ?_
        refine ol_icmp_ge hx hb i4 Cl (by omega) (by omega) (tgt := 295) dX5_step_210 (by decide) (fun c_210 => ?_) (fun c_210 => ?_)
        · have ei4 : Cl = i4 := by omega
          subst ei4
          replace hP : va_P G.1 cl0 (mW G ad iS iA iL iT (nI (mDrv r Rw Cl ((mFm r Rw Cl) / Cl)).2) (nI (mDrv r Rw Cl ((mFm r Rw Cl) / Cl)).1) (mP4 r f Rw Cl) pr ar br (mStF r f Rw Cl) pf af bf tx) H := hP
          replace hD : va_D (va_A (mW G ad iS iA iL iT iC iR r pr ar br f pf af bf tx) s.heap.size) (mW G ad iS iA iL iT (nI (mDrv r Rw Cl ((mFm r Rw Cl) / Cl)).2) (nI (mDrv r Rw Cl ((mFm r Rw Cl) / Cl)).1) (mP4 r f Rw Cl) pr ar br (mStF r f Rw Cl) pf af bf tx) := mD_any hD
          refine lv_aload_n hx hb dX5_step_295 rfl (lv_at hl 4 rfl) ?_
          refine va_get (D := G.1) (ci := 12) (v := .ref (ad 1)) (C := RX5) (T := TX5) (N := 15) hx hb hts in_X5 hown hE.1 hP 0 rfl rfl 0 (by decide) (hts _ q1135) (fun _ h9 => h9) rfl dX5_step_296 ?_
          refine lv_iconst (v := 2) hx hb dX5_step_299 (by decide) ?_
          refine lv_dup2_11 hx hb dX5_step_300 rfl rfl ?_
          refine ol_iald hx hb hE.1 hP 1 0 rfl rfl 2 (by decide) (by decide) dX5_step_301 ?_
          refine lv_iconst (v := 1) hx hb dX5_step_302 (by decide) ?_
          refine lv_iadd hx hb dX5_step_303 ?_
          refine ol_iast hx hb hE.1 hP hD hS 1 0 rfl rfl 2 (by decide) (by decide) dX5_step_304 (fun H locs hP hD hS => ?_)
          replace hP : va_P G.1 cl0 (mW G ad iS iA iL iT (nI (mDrv r Rw Cl ((mFm r Rw Cl) / Cl)).2) (nI (mDrv r Rw Cl ((mFm r Rw Cl) / Cl)).1) (upd (mP4 r f Rw Cl) 2 (((mP4 r f Rw Cl) 2) + 1)) pr ar br (mStF r f Rw Cl) pf af bf tx) H := hP
          replace hD : va_D (va_A (mW G ad iS iA iL iT iC iR r pr ar br f pf af bf tx) s.heap.size) (mW G ad iS iA iL iT (nI (mDrv r Rw Cl ((mFm r Rw Cl) / Cl)).2) (nI (mDrv r Rw Cl ((mFm r Rw Cl) / Cl)).1) (upd (mP4 r f Rw Cl) 2 (((mP4 r f Rw Cl) 2) + 1)) pr ar br (mStF r f Rw Cl) pf af bf tx) := hD
          refine lv_iload hx hb dX5_step_305 (lv_at hl 5 rfl) ?_
          exact ol_iretE hx hb hr hlocks ⟨congrArg (fun z => some (Value.int z)) rfl, rfl⟩ hP hD hS dX5_step_307
        · refine lv_iload hx hb dX5_step_213 (lv_at hl 6 rfl) ?_
          refine lv_iload hx hb dX5_step_215 (lv_at hl 0 rfl) ?_
          refine lv_ishr hx hb dX5_step_217 ?_
          refine lv_iconst (v := 1) hx hb dX5_step_218 (by decide) ?_
          refine lv_iand hx hb dX5_step_219 ?_
          refine ol_top (y := zB (Nat.testBit ((mP2 r f Rw Cl).2) i4)) (nb_bit (by omega) (by omega)) ?_
          refine lv_iconst (v := 1) hx hb dX5_step_220 (by decide) ?_
          refine ol_icmp_neB hx hb (Nat.testBit ((mP2 r f Rw Cl).2) i4) (tgt := 289) dX5_step_221 (by decide) (fun c_221 => ?_) (fun c_221 => ?_)
          · refine ol_iinc (k := 0) (lv' := [(6, .int (nI (i4 + 1))), (3, .int (nI (mSb r Rw Cl))), (2, .int (nI (mFm r Rw Cl))), (1, .int (nI Cl)), (0, .ref (ad 0)), (4, .int (nI (mStN r f Rw Cl))), (5, .int (nI ((mP2 r f Rw Cl).2)))]) hx hb 1 i4 dX5_step_289 hl rfl (by decide) rfl (fun ls hl => ?_)
            refine lv_goto (tgt := 207) hx hb dX5_step_292 (by decide) ?_
            refine ih4 H locs ls (by omega) ⟨?_, ?_, ?_, hS⟩
            · exact lv_sub hl [0, 1, 2, 3, 4, 5, 6] rfl
            · rw [show mS4 (mP3 r f Rw Cl) (mFm r Rw Cl) (mP2 r f Rw Cl).2 (i4 + 1) = mS4 (mP3 r f Rw Cl) (mFm r Rw Cl) (mP2 r f Rw Cl).2 i4 from by simp [mS4, mNt, c_47, Nat.not_lt.mpr c_47, c_93, Nat.not_lt.mpr c_93, c_156, Nat.not_lt.mpr c_156, c_210, Nat.not_le.mpr c_210, c_221] <;> rfl]; exact hP
            · exact mD_any hD
          · refine lv_aload_n hx hb dX5_step_224 rfl (lv_at hl 4 rfl) ?_
            refine va_get (D := G.1) (ci := 12) (v := .ref (ad 1)) (C := RX5) (T := TX5) (N := 15) hx hb hts in_X5 hown hE.1 hP 0 rfl rfl 0 (by decide) (hts _ q1135) (fun _ h9 => h9) rfl dX5_step_225 ?_
            refine lv_sipush (v := 164) hx hb dX5_step_228 (by decide) ?_
            refine lv_iload_n hx hb dX5_step_231 rfl (lv_at hl 2 rfl) ?_
            refine ol_iadd hx hb 164 (mFm r Rw Cl) dX5_step_232 ?_
            refine lv_iload hx hb dX5_step_233 (lv_at hl 0 rfl) ?_
            refine ol_iadd hx hb (164 + (mFm r Rw Cl)) i4 dX5_step_235 ?_
            refine lv_aload_n hx hb dX5_step_236 rfl (lv_at hl 4 rfl) ?_
            refine lv_iconst (v := 0) hx hb dX5_step_237 (by decide) ?_
            refine ol_cR (st1 := [.int (zB (mOn (mS4 (mP3 r f Rw Cl) (mFm r Rw Cl) (mP2 r f Rw Cl).2 i4) 0)), .int (nI (164 + (mFm r Rw Cl) + i4)), .ref (ad 1)]) (va_runV (As := [.int 0]) (rest := [.int (nI (164 + (mFm r Rw Cl) + i4)), .ref (ad 1)]) ⟨hx, hb, hml, hown, hts⟩ (mr_isOn l G ad iS iA iL iT (nI (mDrv r Rw Cl ((mFm r Rw Cl) / Cl)).2) (nI (mDrv r Rw Cl ((mFm r Rw Cl) / Cl)).1) (mS4 (mP3 r f Rw Cl) (mFm r Rw Cl) (mP2 r f Rw Cl).2 i4) pr ar br (mStF r f Rw Cl) pf af bf tx 0 (by omega) hs4i.2.1) (cwV 1 hts (lw_V q1339 q1341 qs46 q73 q1342) rfl rfl rfl (by decide +kernel) ⟨Nat.le_of_ble_eq_true rfl, Nat.le_of_ble_eq_true rfl⟩) (oPc.preV hE (hE.recv (ci := 12) (hP 0 _ rfl) rfl) hP) rfl rfl hl.1 rfl (lv_room (Nat.le_of_ble_eq_true rfl)) dX5_step_238 ⟨Nat.le_of_ble_eq_true rfl, Nat.le_of_ble_eq_true rfl⟩) rfl ?_
            refine ol_if_eqB hx hb (mOn (mS4 (mP3 r f Rw Cl) (mFm r Rw Cl) (mP2 r f Rw Cl).2 i4) 0) (tgt := 248) dX5_step_241 (by decide) (fun c_241 => ?_) (fun c_241 => ?_)
            · refine lv_iconst (v := 0) hx hb dX5_step_248 (by decide) ?_
              refine lv_aload_n hx hb dX5_step_249 rfl (lv_at hl 4 rfl) ?_
              refine lv_iconst (v := 1) hx hb dX5_step_250 (by decide) ?_
              refine ol_cR (st1 := [.int (zB (mOn (mS4 (mP3 r f Rw Cl) (mFm r Rw Cl) (mP2 r f Rw Cl).2 i4) 1)), .int 0, .int (nI (164 + (mFm r Rw Cl) + i4)), .ref (ad 1)]) (va_runV (As := [.int 1]) (rest := [.int 0, .int (nI (164 + (mFm r Rw Cl) + i4)), .ref (ad 1)]) ⟨hx, hb, hml, hown, hts⟩ (mr_isOn l G ad iS iA iL iT (nI (mDrv r Rw Cl ((mFm r Rw Cl) / Cl)).2) (nI (mDrv r Rw Cl ((mFm r Rw Cl) / Cl)).1) (mS4 (mP3 r f Rw Cl) (mFm r Rw Cl) (mP2 r f Rw Cl).2 i4) pr ar br (mStF r f Rw Cl) pf af bf tx 1 (by omega) hs4i.2.1) (cwV 1 hts (lw_V q1339 q1341 qs46 q73 q1342) rfl rfl rfl (by decide +kernel) ⟨Nat.le_of_ble_eq_true rfl, Nat.le_of_ble_eq_true rfl⟩) (oPc.preV hE (hE.recv (ci := 12) (hP 0 _ rfl) rfl) hP) rfl rfl hl.1 rfl (lv_room (Nat.le_of_ble_eq_true rfl)) dX5_step_251 ⟨Nat.le_of_ble_eq_true rfl, Nat.le_of_ble_eq_true rfl⟩) rfl ?_
              refine ol_if_eqB hx hb (mOn (mS4 (mP3 r f Rw Cl) (mFm r Rw Cl) (mP2 r f Rw Cl).2 i4) 1) (tgt := 261) dX5_step_254 (by decide) (fun c_254 => ?_) (fun c_254 => ?_)
              · refine lv_iconst (v := 0) hx hb dX5_step_261 (by decide) ?_
                refine ol_iadd hx hb 0 0 dX5_step_262 ?_
                refine ol_iast hx hb hE.1 hP hD hS 1 0 rfl rfl (164 + (mFm r Rw Cl) + i4) (by omega) (by decide) dX5_step_263 (fun H locs hP hD hS => ?_)
                replace hP : va_P G.1 cl0 (mW G ad iS iA iL iT (nI (mDrv r Rw Cl ((mFm r Rw Cl) / Cl)).2) (nI (mDrv r Rw Cl ((mFm r Rw Cl) / Cl)).1) (upd (mS4 (mP3 r f Rw Cl) (mFm r Rw Cl) (mP2 r f Rw Cl).2 i4) (164 + (mFm r Rw Cl) + i4) (nI 0)) pr ar br (mStF r f Rw Cl) pf af bf tx) H := hP
                replace hD : va_D (va_A (mW G ad iS iA iL iT iC iR r pr ar br f pf af bf tx) s.heap.size) (mW G ad iS iA iL iT (nI (mDrv r Rw Cl ((mFm r Rw Cl) / Cl)).2) (nI (mDrv r Rw Cl ((mFm r Rw Cl) / Cl)).1) (upd (mS4 (mP3 r f Rw Cl) (mFm r Rw Cl) (mP2 r f Rw Cl).2 i4) (164 + (mFm r Rw Cl) + i4) (nI 0)) pr ar br (mStF r f Rw Cl) pf af bf tx) := hD
                refine lv_aload_n hx hb dX5_step_264 rfl (lv_at hl 4 rfl) ?_
                refine va_get (D := G.1) (ci := 12) (v := .ref (ad 1)) (C := RX5) (T := TX5) (N := 15) hx hb hts in_X5 hown hE.1 hP 0 rfl rfl 0 (by decide) (hts _ q1135) (fun _ h9 => h9) rfl dX5_step_265 ?_
                refine lv_sipush (v := 212) hx hb dX5_step_268 (by decide) ?_
                refine lv_iload_n hx hb dX5_step_271 rfl (lv_at hl 2 rfl) ?_
                refine ol_iadd hx hb 212 (mFm r Rw Cl) dX5_step_272 ?_
                refine lv_iload hx hb dX5_step_273 (lv_at hl 0 rfl) ?_
                refine ol_iadd hx hb (212 + (mFm r Rw Cl)) i4 dX5_step_275 ?_
                refine lv_aload_n hx hb dX5_step_276 rfl (lv_at hl 4 rfl) ?_
                refine va_get (D := G.1) (ci := 12) (v := .ref (ad 1)) (C := RX5) (T := TX5) (N := 15) hx hb hts in_X5 hown hE.1 hP 0 rfl rfl 0 (by decide) (hts _ q1135) (fun _ h9 => h9) rfl dX5_step_277 ?_
                refine lv_bipush (v := 20) hx hb dX5_step_280 (by decide) ?_
                refine lv_iload_n hx hb dX5_step_282 rfl (lv_at hl 2 rfl) ?_
                refine ol_iadd hx hb 20 (mFm r Rw Cl) dX5_step_283 ?_
                refine lv_iload hx hb dX5_step_284 (lv_at hl 0 rfl) ?_
                refine ol_iadd hx hb (20 + (mFm r Rw Cl)) i4 dX5_step_286 ?_
                refine ol_iald hx hb hE.1 hP 1 0 rfl rfl (20 + (mFm r Rw Cl) + i4) (by omega) (by decide) dX5_step_287 ?_
                refine ol_iast hx hb hE.1 hP hD hS 1 0 rfl rfl (212 + (mFm r Rw Cl) + i4) (by omega) (by decide) dX5_step_288 (fun H locs hP hD hS => ?_)
                replace hP : va_P G.1 cl0 (mW G ad iS iA iL iT (nI (mDrv r Rw Cl ((mFm r Rw Cl) / Cl)).2) (nI (mDrv r Rw Cl ((mFm r Rw Cl) / Cl)).1) (upd (upd (mS4 (mP3 r f Rw Cl) (mFm r Rw Cl) (mP2 r f Rw Cl).2 i4) (164 + (mFm r Rw Cl) + i4) (nI 0)) (212 + (mFm r Rw Cl) + i4) ((upd (mS4 (mP3 r f Rw Cl) (mFm r Rw Cl) (mP2 r f Rw Cl).2 i4) (164 + (mFm r Rw Cl) + i4) (nI 0)) (20 + (mFm r Rw Cl) + i4))) pr ar br (mStF r f Rw Cl) pf af bf tx) H := hP
                replace hD : va_D (va_A (mW G ad iS iA iL iT iC iR r pr ar br f pf af bf tx) s.heap.size) (mW G ad iS iA iL iT (nI (mDrv r Rw Cl ((mFm r Rw Cl) / Cl)).2) (nI (mDrv r Rw Cl ((mFm r Rw Cl) / Cl)).1) (upd (upd (mS4 (mP3 r f Rw Cl) (mFm r Rw Cl) (mP2 r f Rw Cl).2 i4) (164 + (mFm r Rw Cl) + i4) (nI 0)) (212 + (mFm r Rw Cl) + i4) ((upd (mS4 (mP3 r f Rw Cl) (mFm r Rw Cl) (mP2 r f Rw Cl).2 i4) (164 + (mFm r Rw Cl) + i4) (nI 0)) (20 + (mFm r Rw Cl) + i4))) pr ar br (mStF r f Rw Cl) pf af bf tx) := hD
                refine ol_iinc (k := 0) (lv' := [(6, .int (nI (i4 + 1))), (3, .int (nI (mSb r Rw Cl))), (2, .int (nI (mFm r Rw Cl))), (1, .int (nI Cl)), (0, .ref (ad 0)), (4, .int (nI (mStN r f Rw Cl))), (5, .int (nI ((mP2 r f Rw Cl).2)))]) hx hb 1 i4 dX5_step_289 hl rfl (by decide) rfl (fun ls hl => ?_)
                refine lv_goto (tgt := 207) hx hb dX5_step_292 (by decide) ?_
                refine ih4 H locs ls (by omega) ⟨?_, ?_, ?_, hS⟩
                · exact lv_sub hl [0, 1, 2, 3, 4, 5, 6] rfl
                · rw [show mS4 (mP3 r f Rw Cl) (mFm r Rw Cl) (mP2 r f Rw Cl).2 (i4 + 1) = upd (upd (mS4 (mP3 r f Rw Cl) (mFm r Rw Cl) (mP2 r f Rw Cl).2 i4) (164 + (mFm r Rw Cl) + i4) (nI 0)) (212 + (mFm r Rw Cl) + i4) ((upd (mS4 (mP3 r f Rw Cl) (mFm r Rw Cl) (mP2 r f Rw Cl).2 i4) (164 + (mFm r Rw Cl) + i4) (nI 0)) (20 + (mFm r Rw Cl) + i4)) from by simp [mS4, mNt, c_47, Nat.not_lt.mpr c_47, c_93, Nat.not_lt.mpr c_93, c_156, Nat.not_lt.mpr c_156, c_210, Nat.not_le.mpr c_210, c_221, c_241, c_254] <;> rfl]; exact hP
                · exact mD_any hD
              · refine lv_iconst (v := 2) hx hb dX5_step_257 (by decide) ?_
                refine lv_goto (tgt := 262) hx hb dX5_step_258 (by decide) ?_
                refine ol_iadd hx hb 0 2 dX5_step_262 ?_
                refine ol_iast hx hb hE.1 hP hD hS 1 0 rfl rfl (164 + (mFm r Rw Cl) + i4) (by omega) (by decide) dX5_step_263 (fun H locs hP hD hS => ?_)
                replace hP : va_P G.1 cl0 (mW G ad iS iA iL iT (nI (mDrv r Rw Cl ((mFm r Rw Cl) / Cl)).2) (nI (mDrv r Rw Cl ((mFm r Rw Cl) / Cl)).1) (upd (mS4 (mP3 r f Rw Cl) (mFm r Rw Cl) (mP2 r f Rw Cl).2 i4) (164 + (mFm r Rw Cl) + i4) (nI 2)) pr ar br (mStF r f Rw Cl) pf af bf tx) H := hP
                replace hD : va_D (va_A (mW G ad iS iA iL iT iC iR r pr ar br f pf af bf tx) s.heap.size) (mW G ad iS iA iL iT (nI (mDrv r Rw Cl ((mFm r Rw Cl) / Cl)).2) (nI (mDrv r Rw Cl ((mFm r Rw Cl) / Cl)).1) (upd (mS4 (mP3 r f Rw Cl) (mFm r Rw Cl) (mP2 r f Rw Cl).2 i4) (164 + (mFm r Rw Cl) + i4) (nI 2)) pr ar br (mStF r f Rw Cl) pf af bf tx) := hD
                refine lv_aload_n hx hb dX5_step_264 rfl (lv_at hl 4 rfl) ?_
                refine va_get (D := G.1) (ci := 12) (v := .ref (ad 1)) (C := RX5) (T := TX5) (N := 15) hx hb hts in_X5 hown hE.1 hP 0 rfl rfl 0 (by decide) (hts _ q1135) (fun _ h9 => h9) rfl dX5_step_265 ?_
                refine lv_sipush (v := 212) hx hb dX5_step_268 (by decide) ?_
                refine lv_iload_n hx hb dX5_step_271 rfl (lv_at hl 2 rfl) ?_
                refine ol_iadd hx hb 212 (mFm r Rw Cl) dX5_step_272 ?_
                refine lv_iload hx hb dX5_step_273 (lv_at hl 0 rfl) ?_
                refine ol_iadd hx hb (212 + (mFm r Rw Cl)) i4 dX5_step_275 ?_
                refine lv_aload_n hx hb dX5_step_276 rfl (lv_at hl 4 rfl) ?_
                refine va_get (D := G.1) (ci := 12) (v := .ref (ad 1)) (C := RX5) (T := TX5) (N := 15) hx hb hts in_X5 hown hE.1 hP 0 rfl rfl 0 (by decide) (hts _ q1135) (fun _ h9 => h9) rfl dX5_step_277 ?_
                refine lv_bipush (v := 20) hx hb dX5_step_280 (by decide) ?_
                refine lv_iload_n hx hb dX5_step_282 rfl (lv_at hl 2 rfl) ?_
                refine ol_iadd hx hb 20 (mFm r Rw Cl) dX5_step_283 ?_
                refine lv_iload hx hb dX5_step_284 (lv_at hl 0 rfl) ?_
                refine ol_iadd hx hb (20 + (mFm r Rw Cl)) i4 dX5_step_286 ?_
                refine ol_iald hx hb hE.1 hP 1 0 rfl rfl (20 + (mFm r Rw Cl) + i4) (by omega) (by decide) dX5_step_287 ?_
                refine ol_iast hx hb hE.1 hP hD hS 1 0 rfl rfl (212 + (mFm r Rw Cl) + i4) (by omega) (by decide) dX5_step_288 (fun H locs hP hD hS => ?_)
                replace hP : va_P G.1 cl0 (mW G ad iS iA iL iT (nI (mDrv r Rw Cl ((mFm r Rw Cl) / Cl)).2) (nI (mDrv r Rw Cl ((mFm r Rw Cl) / Cl)).1) (upd (upd (mS4 (mP3 r f Rw Cl) (mFm r Rw Cl) (mP2 r f Rw Cl).2 i4) (164 + (mFm r Rw Cl) + i4) (nI 2)) (212 + (mFm r Rw Cl) + i4) ((upd (mS4 (mP3 r f Rw Cl) (mFm r Rw Cl) (mP2 r f Rw Cl).2 i4) (164 + (mFm r Rw Cl) + i4) (nI 2)) (20 + (mFm r Rw Cl) + i4))) pr ar br (mStF r f Rw Cl) pf af bf tx) H := hP
                replace hD : va_D (va_A (mW G ad iS iA iL iT iC iR r pr ar br f pf af bf tx) s.heap.size) (mW G ad iS iA iL iT (nI (mDrv r Rw Cl ((mFm r Rw Cl) / Cl)).2) (nI (mDrv r Rw Cl ((mFm r Rw Cl) / Cl)).1) (upd (upd (mS4 (mP3 r f Rw Cl) (mFm r Rw Cl) (mP2 r f Rw Cl).2 i4) (164 + (mFm r Rw Cl) + i4) (nI 2)) (212 + (mFm r Rw Cl) + i4) ((upd (mS4 (mP3 r f Rw Cl) (mFm r Rw Cl) (mP2 r f Rw Cl).2 i4) (164 + (mFm r Rw Cl) + i4) (nI 2)) (20 + (mFm r Rw Cl) + i4))) pr ar br (mStF r f Rw Cl) pf af bf tx) := hD
                refine ol_iinc (k := 0) (lv' := [(6, .int (nI (i4 + 1))), (3, .int (nI (mSb r Rw Cl))), (2, .int (nI (mFm r Rw Cl))), (1, .int (nI Cl)), (0, .ref (ad 0)), (4, .int (nI (mStN r f Rw Cl))), (5, .int (nI ((mP2 r f Rw Cl).2)))]) hx hb 1 i4 dX5_step_289 hl rfl (by decide) rfl (fun ls hl => ?_)
                refine lv_goto (tgt := 207) hx hb dX5_step_292 (by decide) ?_
                refine ih4 H locs ls (by omega) ⟨?_, ?_, ?_, hS⟩
                · exact lv_sub hl [0, 1, 2, 3, 4, 5, 6] rfl
                · rw [show mS4 (mP3 r f Rw Cl) (mFm r Rw Cl) (mP2 r f Rw Cl).2 (i4 + 1) = upd (upd (mS4 (mP3 r f Rw Cl) (mFm r Rw Cl) (mP2 r f Rw Cl).2 i4) (164 + (mFm r Rw Cl) + i4) (nI 2)) (212 + (mFm r Rw Cl) + i4) ((upd (mS4 (mP3 r f Rw Cl) (mFm r Rw Cl) (mP2 r f Rw Cl).2 i4) (164 + (mFm r Rw Cl) + i4) (nI 2)) (20 + (mFm r Rw Cl) + i4)) from by simp [mS4, mNt, c_47, Nat.not_lt.mpr c_47, c_93, Nat.not_lt.mpr c_93, c_156, Nat.not_lt.mpr c_156, c_210, Nat.not_le.mpr c_210, c_221, c_241, c_254] <;> rfl]; exact hP
                · exact mD_any hD
            · refine lv_iconst (v := 1) hx hb dX5_step_244 (by decide) ?_
              refine lv_goto (tgt := 249) hx hb dX5_step_245 (by decide) ?_
              refine lv_aload_n hx hb dX5_step_249 rfl (lv_at hl 4 rfl) ?_
              refine lv_iconst (v := 1) hx hb dX5_step_250 (by decide) ?_
              refine ol_cR (st1 := [.int (zB (mOn (mS4 (mP3 r f Rw Cl) (mFm r Rw Cl) (mP2 r f Rw Cl).2 i4) 1)), .int 1, .int (nI (164 + (mFm r Rw Cl) + i4)), .ref (ad 1)]) (va_runV (As := [.int 1]) (rest := [.int 1, .int (nI (164 + (mFm r Rw Cl) + i4)), .ref (ad 1)]) ⟨hx, hb, hml, hown, hts⟩ (mr_isOn l G ad iS iA iL iT (nI (mDrv r Rw Cl ((mFm r Rw Cl) / Cl)).2) (nI (mDrv r Rw Cl ((mFm r Rw Cl) / Cl)).1) (mS4 (mP3 r f Rw Cl) (mFm r Rw Cl) (mP2 r f Rw Cl).2 i4) pr ar br (mStF r f Rw Cl) pf af bf tx 1 (by omega) hs4i.2.1) (cwV 1 hts (lw_V q1339 q1341 qs46 q73 q1342) rfl rfl rfl (by decide +kernel) ⟨Nat.le_of_ble_eq_true rfl, Nat.le_of_ble_eq_true rfl⟩) (oPc.preV hE (hE.recv (ci := 12) (hP 0 _ rfl) rfl) hP) rfl rfl hl.1 rfl (lv_room (Nat.le_of_ble_eq_true rfl)) dX5_step_251 ⟨Nat.le_of_ble_eq_true rfl, Nat.le_of_ble_eq_true rfl⟩) rfl ?_
              refine ol_if_eqB hx hb (mOn (mS4 (mP3 r f Rw Cl) (mFm r Rw Cl) (mP2 r f Rw Cl).2 i4) 1) (tgt := 261) dX5_step_254 (by decide) (fun c_254 => ?_) (fun c_254 => ?_)
              · refine lv_iconst (v := 0) hx hb dX5_step_261 (by decide) ?_
                refine ol_iadd hx hb 1 0 dX5_step_262 ?_
                refine ol_iast hx hb hE.1 hP hD hS 1 0 rfl rfl (164 + (mFm r Rw Cl) + i4) (by omega) (by decide) dX5_step_263 (fun H locs hP hD hS => ?_)
                replace hP : va_P G.1 cl0 (mW G ad iS iA iL iT (nI (mDrv r Rw Cl ((mFm r Rw Cl) / Cl)).2) (nI (mDrv r Rw Cl ((mFm r Rw Cl) / Cl)).1) (upd (mS4 (mP3 r f Rw Cl) (mFm r Rw Cl) (mP2 r f Rw Cl).2 i4) (164 + (mFm r Rw Cl) + i4) (nI 1)) pr ar br (mStF r f Rw Cl) pf af bf tx) H := hP
                replace hD : va_D (va_A (mW G ad iS iA iL iT iC iR r pr ar br f pf af bf tx) s.heap.size) (mW G ad iS iA iL iT (nI (mDrv r Rw Cl ((mFm r Rw Cl) / Cl)).2) (nI (mDrv r Rw Cl ((mFm r Rw Cl) / Cl)).1) (upd (mS4 (mP3 r f Rw Cl) (mFm r Rw Cl) (mP2 r f Rw Cl).2 i4) (164 + (mFm r Rw Cl) + i4) (nI 1)) pr ar br (mStF r f Rw Cl) pf af bf tx) := hD
                refine lv_aload_n hx hb dX5_step_264 rfl (lv_at hl 4 rfl) ?_
                refine va_get (D := G.1) (ci := 12) (v := .ref (ad 1)) (C := RX5) (T := TX5) (N := 15) hx hb hts in_X5 hown hE.1 hP 0 rfl rfl 0 (by decide) (hts _ q1135) (fun _ h9 => h9) rfl dX5_step_265 ?_
                refine lv_sipush (v := 212) hx hb dX5_step_268 (by decide) ?_
                refine lv_iload_n hx hb dX5_step_271 rfl (lv_at hl 2 rfl) ?_
                refine ol_iadd hx hb 212 (mFm r Rw Cl) dX5_step_272 ?_
                refine lv_iload hx hb dX5_step_273 (lv_at hl 0 rfl) ?_
                refine ol_iadd hx hb (212 + (mFm r Rw Cl)) i4 dX5_step_275 ?_
                refine lv_aload_n hx hb dX5_step_276 rfl (lv_at hl 4 rfl) ?_
                refine va_get (D := G.1) (ci := 12) (v := .ref (ad 1)) (C := RX5) (T := TX5) (N := 15) hx hb hts in_X5 hown hE.1 hP 0 rfl rfl 0 (by decide) (hts _ q1135) (fun _ h9 => h9) rfl dX5_step_277 ?_
                refine lv_bipush (v := 20) hx hb dX5_step_280 (by decide) ?_
                refine lv_iload_n hx hb dX5_step_282 rfl (lv_at hl 2 rfl) ?_
                refine ol_iadd hx hb 20 (mFm r Rw Cl) dX5_step_283 ?_
                refine lv_iload hx hb dX5_step_284 (lv_at hl 0 rfl) ?_
                refine ol_iadd hx hb (20 + (mFm r Rw Cl)) i4 dX5_step_286 ?_
                refine ol_iald hx hb hE.1 hP 1 0 rfl rfl (20 + (mFm r Rw Cl) + i4) (by omega) (by decide) dX5_step_287 ?_
                refine ol_iast hx hb hE.1 hP hD hS 1 0 rfl rfl (212 + (mFm r Rw Cl) + i4) (by omega) (by decide) dX5_step_288 (fun H locs hP hD hS => ?_)
                replace hP : va_P G.1 cl0 (mW G ad iS iA iL iT (nI (mDrv r Rw Cl ((mFm r Rw Cl) / Cl)).2) (nI (mDrv r Rw Cl ((mFm r Rw Cl) / Cl)).1) (upd (upd (mS4 (mP3 r f Rw Cl) (mFm r Rw Cl) (mP2 r f Rw Cl).2 i4) (164 + (mFm r Rw Cl) + i4) (nI 1)) (212 + (mFm r Rw Cl) + i4) ((upd (mS4 (mP3 r f Rw Cl) (mFm r Rw Cl) (mP2 r f Rw Cl).2 i4) (164 + (mFm r Rw Cl) + i4) (nI 1)) (20 + (mFm r Rw Cl) + i4))) pr ar br (mStF r f Rw Cl) pf af bf tx) H := hP
                replace hD : va_D (va_A (mW G ad iS iA iL iT iC iR r pr ar br f pf af bf tx) s.heap.size) (mW G ad iS iA iL iT (nI (mDrv r Rw Cl ((mFm r Rw Cl) / Cl)).2) (nI (mDrv r Rw Cl ((mFm r Rw Cl) / Cl)).1) (upd (upd (mS4 (mP3 r f Rw Cl) (mFm r Rw Cl) (mP2 r f Rw Cl).2 i4) (164 + (mFm r Rw Cl) + i4) (nI 1)) (212 + (mFm r Rw Cl) + i4) ((upd (mS4 (mP3 r f Rw Cl) (mFm r Rw Cl) (mP2 r f Rw Cl).2 i4) (164 + (mFm r Rw Cl) + i4) (nI 1)) (20 + (mFm r Rw Cl) + i4))) pr ar br (mStF r f Rw Cl) pf af bf tx) := hD
                refine ol_iinc (k := 0) (lv' := [(6, .int (nI (i4 + 1))), (3, .int (nI (mSb r Rw Cl))), (2, .int (nI (mFm r Rw Cl))), (1, .int (nI Cl)), (0, .ref (ad 0)), (4, .int (nI (mStN r f Rw Cl))), (5, .int (nI ((mP2 r f Rw Cl).2)))]) hx hb 1 i4 dX5_step_289 hl rfl (by decide) rfl (fun ls hl => ?_)
                refine lv_goto (tgt := 207) hx hb dX5_step_292 (by decide) ?_
                refine ih4 H locs ls (by omega) ⟨?_, ?_, ?_, hS⟩
                · exact lv_sub hl [0, 1, 2, 3, 4, 5, 6] rfl
                · rw [show mS4 (mP3 r f Rw Cl) (mFm r Rw Cl) (mP2 r f Rw Cl).2 (i4 + 1) = upd (upd (mS4 (mP3 r f Rw Cl) (mFm r Rw Cl) (mP2 r f Rw Cl).2 i4) (164 + (mFm r Rw Cl) + i4) (nI 1)) (212 + (mFm r Rw Cl) + i4) ((upd (mS4 (mP3 r f Rw Cl) (mFm r Rw Cl) (mP2 r f Rw Cl).2 i4) (164 + (mFm r Rw Cl) + i4) (nI 1)) (20 + (mFm r Rw Cl) + i4)) from by simp [mS4, mNt, c_47, Nat.not_lt.mpr c_47, c_93, Nat.not_lt.mpr c_93, c_156, Nat.not_lt.mpr c_156, c_210, Nat.not_le.mpr c_210, c_221, c_241, c_254] <;> rfl]; exact hP
                · exact mD_any hD
              · refine lv_iconst (v := 2) hx hb dX5_step_257 (by decide) ?_
                refine lv_goto (tgt := 262) hx hb dX5_step_258 (by decide) ?_
                refine ol_iadd hx hb 1 2 dX5_step_262 ?_
                refine ol_iast hx hb hE.1 hP hD hS 1 0 rfl rfl (164 + (mFm r Rw Cl) + i4) (by omega) (by decide) dX5_step_263 (fun H locs hP hD hS => ?_)
                replace hP : va_P G.1 cl0 (mW G ad iS iA iL iT (nI (mDrv r Rw Cl ((mFm r Rw Cl) / Cl)).2) (nI (mDrv r Rw Cl ((mFm r Rw Cl) / Cl)).1) (upd (mS4 (mP3 r f Rw Cl) (mFm r Rw Cl) (mP2 r f Rw Cl).2 i4) (164 + (mFm r Rw Cl) + i4) (nI 3)) pr ar br (mStF r f Rw Cl) pf af bf tx) H := hP
                replace hD : va_D (va_A (mW G ad iS iA iL iT iC iR r pr ar br f pf af bf tx) s.heap.size) (mW G ad iS iA iL iT (nI (mDrv r Rw Cl ((mFm r Rw Cl) / Cl)).2) (nI (mDrv r Rw Cl ((mFm r Rw Cl) / Cl)).1) (upd (mS4 (mP3 r f Rw Cl) (mFm r Rw Cl) (mP2 r f Rw Cl).2 i4) (164 + (mFm r Rw Cl) + i4) (nI 3)) pr ar br (mStF r f Rw Cl) pf af bf tx) := hD
                refine lv_aload_n hx hb dX5_step_264 rfl (lv_at hl 4 rfl) ?_
                refine va_get (D := G.1) (ci := 12) (v := .ref (ad 1)) (C := RX5) (T := TX5) (N := 15) hx hb hts in_X5 hown hE.1 hP 0 rfl rfl 0 (by decide) (hts _ q1135) (fun _ h9 => h9) rfl dX5_step_265 ?_
                refine lv_sipush (v := 212) hx hb dX5_step_268 (by decide) ?_
                refine lv_iload_n hx hb dX5_step_271 rfl (lv_at hl 2 rfl) ?_
                refine ol_iadd hx hb 212 (mFm r Rw Cl) dX5_step_272 ?_
                refine lv_iload hx hb dX5_step_273 (lv_at hl 0 rfl) ?_
                refine ol_iadd hx hb (212 + (mFm r Rw Cl)) i4 dX5_step_275 ?_
                refine lv_aload_n hx hb dX5_step_276 rfl (lv_at hl 4 rfl) ?_
                refine va_get (D := G.1) (ci := 12) (v := .ref (ad 1)) (C := RX5) (T := TX5) (N := 15) hx hb hts in_X5 hown hE.1 hP 0 rfl rfl 0 (by decide) (hts _ q1135) (fun _ h9 => h9) rfl dX5_step_277 ?_
                refine lv_bipush (v := 20) hx hb dX5_step_280 (by decide) ?_
                refine lv_iload_n hx hb dX5_step_282 rfl (lv_at hl 2 rfl) ?_
                refine ol_iadd hx hb 20 (mFm r Rw Cl) dX5_step_283 ?_
                refine lv_iload hx hb dX5_step_284 (lv_at hl 0 rfl) ?_
                refine ol_iadd hx hb (20 + (mFm r Rw Cl)) i4 dX5_step_286 ?_
                refine ol_iald hx hb hE.1 hP 1 0 rfl rfl (20 + (mFm r Rw Cl) + i4) (by omega) (by decide) dX5_step_287 ?_
                refine ol_iast hx hb hE.1 hP hD hS 1 0 rfl rfl (212 + (mFm r Rw Cl) + i4) (by omega) (by decide) dX5_step_288 (fun H locs hP hD hS => ?_)
                replace hP : va_P G.1 cl0 (mW G ad iS iA iL iT (nI (mDrv r Rw Cl ((mFm r Rw Cl) / Cl)).2) (nI (mDrv r Rw Cl ((mFm r Rw Cl) / Cl)).1) (upd (upd (mS4 (mP3 r f Rw Cl) (mFm r Rw Cl) (mP2 r f Rw Cl).2 i4) (164 + (mFm r Rw Cl) + i4) (nI 3)) (212 + (mFm r Rw Cl) + i4) ((upd (mS4 (mP3 r f Rw Cl) (mFm r Rw Cl) (mP2 r f Rw Cl).2 i4) (164 + (mFm r Rw Cl) + i4) (nI 3)) (20 + (mFm r Rw Cl) + i4))) pr ar br (mStF r f Rw Cl) pf af bf tx) H := hP
                replace hD : va_D (va_A (mW G ad iS iA iL iT iC iR r pr ar br f pf af bf tx) s.heap.size) (mW G ad iS iA iL iT (nI (mDrv r Rw Cl ((mFm r Rw Cl) / Cl)).2) (nI (mDrv r Rw Cl ((mFm r Rw Cl) / Cl)).1) (upd (upd (mS4 (mP3 r f Rw Cl) (mFm r Rw Cl) (mP2 r f Rw Cl).2 i4) (164 + (mFm r Rw Cl) + i4) (nI 3)) (212 + (mFm r Rw Cl) + i4) ((upd (mS4 (mP3 r f Rw Cl) (mFm r Rw Cl) (mP2 r f Rw Cl).2 i4) (164 + (mFm r Rw Cl) + i4) (nI 3)) (20 + (mFm r Rw Cl) + i4))) pr ar br (mStF r f Rw Cl) pf af bf tx) := hD
                refine ol_iinc (k := 0) (lv' := [(6, .int (nI (i4 + 1))), (3, .int (nI (mSb r Rw Cl))), (2, .int (nI (mFm r Rw Cl))), (1, .int (nI Cl)), (0, .ref (ad 0)), (4, .int (nI (mStN r f Rw Cl))), (5, .int (nI ((mP2 r f Rw Cl).2)))]) hx hb 1 i4 dX5_step_289 hl rfl (by decide) rfl (fun ls hl => ?_)
                refine lv_goto (tgt := 207) hx hb dX5_step_292 (by decide) ?_
                refine ih4 H locs ls (by omega) ⟨?_, ?_, ?_, hS⟩
                · exact lv_sub hl [0, 1, 2, 3, 4, 5, 6] rfl
                · rw [show mS4 (mP3 r f Rw Cl) (mFm r Rw Cl) (mP2 r f Rw Cl).2 (i4 + 1) = upd (upd (mS4 (mP3 r f Rw Cl) (mFm r Rw Cl) (mP2 r f Rw Cl).2 i4) (164 + (mFm r Rw Cl) + i4) (nI 3)) (212 + (mFm r Rw Cl) + i4) ((upd (mS4 (mP3 r f Rw Cl) (mFm r Rw Cl) (mP2 r f Rw Cl).2 i4) (164 + (mFm r Rw Cl) + i4) (nI 3)) (20 + (mFm r Rw Cl) + i4)) from by simp [mS4, mNt, c_47, Nat.not_lt.mpr c_47, c_93, Nat.not_lt.mpr c_93, c_156, Nat.not_lt.mpr c_156, c_210, Nat.not_le.mpr c_210, c_221, c_241, c_254] <;> rfl]; exact hP
                · exact mD_any hD
      · refine lv_iload hx hb dX5_step_159 (lv_at hl 6 rfl) ?_
        refine lv_iload hx hb dX5_step_161 (lv_at hl 0 rfl) ?_
        refine lv_ishr hx hb dX5_step_163 ?_
        refine lv_iconst (v := 1) hx hb dX5_step_164 (by decide) ?_
        refine lv_iand hx hb dX5_step_165 ?_
        refine ol_top (y := zB (Nat.testBit ((mP2 r f Rw Cl).2) i3)) (nb_bit (by omega) (by omega)) ?_
        refine lv_iconst (v := 1) hx hb dX5_step_166 (by decide) ?_
        refine ol_icmp_neB hx hb (Nat.testBit ((mP2 r f Rw Cl).2) i3) (tgt := 198) dX5_step_167 (by decide) (fun c_167 => ?_) (fun c_167 => ?_)
        · refine ol_iinc (k := 0) (lv' := [(6, .int (nI (i3 + 1))), (3, .int (nI (mSb r Rw Cl))), (2, .int (nI (mFm r Rw Cl))), (1, .int (nI Cl)), (0, .ref (ad 0)), (4, .int (nI (mStN r f Rw Cl))), (5, .int (nI ((mP2 r f Rw Cl).2)))]) hx hb 1 i3 dX5_step_198 hl rfl (by decide) rfl (fun ls hl => ?_)
          refine lv_goto (tgt := 153) hx hb dX5_step_201 (by decide) ?_
          refine ih3 H locs ls (by omega) ⟨?_, ?_, ?_, hS⟩
          · exact lv_sub hl [0, 1, 2, 3, 4, 5, 6] rfl
          · rw [show mS3 (mP2 r f Rw Cl).1 Rw Cl (mFm r Rw Cl) (mP2 r f Rw Cl).2 (i3 + 1) = mS3 (mP2 r f Rw Cl).1 Rw Cl (mFm r Rw Cl) (mP2 r f Rw Cl).2 i3 from by simp [mS3, zB, c_47, Nat.not_lt.mpr c_47, c_93, Nat.not_lt.mpr c_93, c_156, Nat.not_le.mpr c_156, c_167]]; exact hP
          · exact mD_any hD
        · refine lv_aload_n hx hb dX5_step_170 rfl (lv_at hl 4 rfl) ?_
          refine va_get (D := G.1) (ci := 12) (v := .ref (ad 1)) (C := RX5) (T := TX5) (N := 15) hx hb hts in_X5 hown hE.1 hP 0 rfl rfl 0 (by decide) (hts _ q1135) (fun _ h9 => h9) rfl dX5_step_171 ?_
          refine lv_bipush (v := 116) hx hb dX5_step_174 (by decide) ?_
          refine lv_iload_n hx hb dX5_step_176 rfl (lv_at hl 2 rfl) ?_
          refine ol_iadd hx hb 116 (mFm r Rw Cl) dX5_step_177 ?_
          refine lv_iload hx hb dX5_step_178 (lv_at hl 0 rfl) ?_
          refine ol_iadd hx hb (116 + (mFm r Rw Cl)) i3 dX5_step_180 ?_
          refine lv_aload_n hx hb dX5_step_181 rfl (lv_at hl 4 rfl) ?_
          refine lv_iload_n hx hb dX5_step_182 rfl (lv_at hl 2 rfl) ?_
          refine lv_iload hx hb dX5_step_183 (lv_at hl 0 rfl) ?_
          refine ol_iadd hx hb (mFm r Rw Cl) i3 dX5_step_185 ?_
          refine ol_cR (st1 := [.int (zB (mCorner (mS3 (mP2 r f Rw Cl).1 Rw Cl (mFm r Rw Cl) (mP2 r f Rw Cl).2 i3) Rw Cl (mFm r Rw Cl + i3))), .int (nI (116 + (mFm r Rw Cl) + i3)), .ref (ad 1)]) (va_runV (As := [.int (nI (mFm r Rw Cl + i3))]) (rest := [.int (nI (116 + (mFm r Rw Cl) + i3)), .ref (ad 1)]) ⟨hx, hb, hml, hown, hts⟩ (mr_closesCorner l G ad iS iA iL iT (nI (mDrv r Rw Cl ((mFm r Rw Cl) / Cl)).2) (nI (mDrv r Rw Cl ((mFm r Rw Cl) / Cl)).1) (mS3 (mP2 r f Rw Cl).1 Rw Cl (mFm r Rw Cl) (mP2 r f Rw Cl).2 i3) pr ar br (mStF r f Rw Cl) pf af bf tx (mFm r Rw Cl + i3) Rw Cl hs3i.1 (by omega)) (cwV 1 hts (lw_V q1335 q1337 qs45 q73 q1338) rfl rfl rfl (by decide +kernel) ⟨Nat.le_of_ble_eq_true rfl, Nat.le_of_ble_eq_true rfl⟩) (oPc.preV hE (hE.recv (ci := 12) (hP 0 _ rfl) rfl) hP) rfl rfl hl.1 rfl (lv_room (Nat.le_of_ble_eq_true rfl)) dX5_step_186 ⟨Nat.le_of_ble_eq_true rfl, Nat.le_of_ble_eq_true rfl⟩) rfl ?_
          refine ol_if_eqB hx hb (mCorner (mS3 (mP2 r f Rw Cl).1 Rw Cl (mFm r Rw Cl) (mP2 r f Rw Cl).2 i3) Rw Cl (mFm r Rw Cl + i3)) (tgt := 196) dX5_step_189 (by decide) (fun c_189 => ?_) (fun c_189 => ?_)
          · refine lv_iconst (v := 0) hx hb dX5_step_196 (by decide) ?_
            refine ol_iast hx hb hE.1 hP hD hS 1 0 rfl rfl (116 + (mFm r Rw Cl) + i3) (by omega) (by decide) dX5_step_197 (fun H locs hP hD hS => ?_)
            replace hP : va_P G.1 cl0 (mW G ad iS iA iL iT (nI (mDrv r Rw Cl ((mFm r Rw Cl) / Cl)).2) (nI (mDrv r Rw Cl ((mFm r Rw Cl) / Cl)).1) (upd (mS3 (mP2 r f Rw Cl).1 Rw Cl (mFm r Rw Cl) (mP2 r f Rw Cl).2 i3) (116 + (mFm r Rw Cl) + i3) 0) pr ar br (mStF r f Rw Cl) pf af bf tx) H := hP
            replace hD : va_D (va_A (mW G ad iS iA iL iT iC iR r pr ar br f pf af bf tx) s.heap.size) (mW G ad iS iA iL iT (nI (mDrv r Rw Cl ((mFm r Rw Cl) / Cl)).2) (nI (mDrv r Rw Cl ((mFm r Rw Cl) / Cl)).1) (upd (mS3 (mP2 r f Rw Cl).1 Rw Cl (mFm r Rw Cl) (mP2 r f Rw Cl).2 i3) (116 + (mFm r Rw Cl) + i3) 0) pr ar br (mStF r f Rw Cl) pf af bf tx) := hD
            refine ol_iinc (k := 0) (lv' := [(6, .int (nI (i3 + 1))), (3, .int (nI (mSb r Rw Cl))), (2, .int (nI (mFm r Rw Cl))), (1, .int (nI Cl)), (0, .ref (ad 0)), (4, .int (nI (mStN r f Rw Cl))), (5, .int (nI ((mP2 r f Rw Cl).2)))]) hx hb 1 i3 dX5_step_198 hl rfl (by decide) rfl (fun ls hl => ?_)
            refine lv_goto (tgt := 153) hx hb dX5_step_201 (by decide) ?_
            refine ih3 H locs ls (by omega) ⟨?_, ?_, ?_, hS⟩
            · exact lv_sub hl [0, 1, 2, 3, 4, 5, 6] rfl
            · rw [show mS3 (mP2 r f Rw Cl).1 Rw Cl (mFm r Rw Cl) (mP2 r f Rw Cl).2 (i3 + 1) = upd (mS3 (mP2 r f Rw Cl).1 Rw Cl (mFm r Rw Cl) (mP2 r f Rw Cl).2 i3) (116 + (mFm r Rw Cl) + i3) 0 from by simp [mS3, zB, c_47, Nat.not_lt.mpr c_47, c_93, Nat.not_lt.mpr c_93, c_156, Nat.not_le.mpr c_156, c_167, c_189]]; exact hP
            · exact mD_any hD
          · refine lv_iconst (v := 1) hx hb dX5_step_192 (by decide) ?_
            refine lv_goto (tgt := 197) hx hb dX5_step_193 (by decide) ?_
            refine ol_iast hx hb hE.1 hP hD hS 1 0 rfl rfl (116 + (mFm r Rw Cl) + i3) (by omega) (by decide) dX5_step_197 (fun H locs hP hD hS => ?_)
            replace hP : va_P G.1 cl0 (mW G ad iS iA iL iT (nI (mDrv r Rw Cl ((mFm r Rw Cl) / Cl)).2) (nI (mDrv r Rw Cl ((mFm r Rw Cl) / Cl)).1) (upd (mS3 (mP2 r f Rw Cl).1 Rw Cl (mFm r Rw Cl) (mP2 r f Rw Cl).2 i3) (116 + (mFm r Rw Cl) + i3) 1) pr ar br (mStF r f Rw Cl) pf af bf tx) H := hP
            replace hD : va_D (va_A (mW G ad iS iA iL iT iC iR r pr ar br f pf af bf tx) s.heap.size) (mW G ad iS iA iL iT (nI (mDrv r Rw Cl ((mFm r Rw Cl) / Cl)).2) (nI (mDrv r Rw Cl ((mFm r Rw Cl) / Cl)).1) (upd (mS3 (mP2 r f Rw Cl).1 Rw Cl (mFm r Rw Cl) (mP2 r f Rw Cl).2 i3) (116 + (mFm r Rw Cl) + i3) 1) pr ar br (mStF r f Rw Cl) pf af bf tx) := hD
            refine ol_iinc (k := 0) (lv' := [(6, .int (nI (i3 + 1))), (3, .int (nI (mSb r Rw Cl))), (2, .int (nI (mFm r Rw Cl))), (1, .int (nI Cl)), (0, .ref (ad 0)), (4, .int (nI (mStN r f Rw Cl))), (5, .int (nI ((mP2 r f Rw Cl).2)))]) hx hb 1 i3 dX5_step_198 hl rfl (by decide) rfl (fun ls hl => ?_)
            refine lv_goto (tgt := 153) hx hb dX5_step_201 (by decide) ?_
            refine ih3 H locs ls (by omega) ⟨?_, ?_, ?_, hS⟩
            · exact lv_sub hl [0, 1, 2, 3, 4, 5, 6] rfl
            · rw [show mS3 (mP2 r f Rw Cl).1 Rw Cl (mFm r Rw Cl) (mP2 r f Rw Cl).2 (i3 + 1) = upd (mS3 (mP2 r f Rw Cl).1 Rw Cl (mFm r Rw Cl) (mP2 r f Rw Cl).2 i3) (116 + (mFm r Rw Cl) + i3) 1 from by simp [mS3, zB, c_47, Nat.not_lt.mpr c_47, c_93, Nat.not_lt.mpr c_93, c_156, Nat.not_le.mpr c_156, c_167, c_189]]; exact hP
            · exact mD_any hD
    · refine lv_aload_n hx hb dX5_step_96 rfl (lv_at hl 4 rfl) ?_
      refine lv_iload_n hx hb dX5_step_97 rfl (lv_at hl 2 rfl) ?_
      refine lv_iload hx hb dX5_step_98 (lv_at hl 0 rfl) ?_
      refine ol_iadd hx hb (mFm r Rw Cl) i2 dX5_step_100 ?_
      refine ol_cR (st1 := [.int (zB (sn ((mS2 (mP1 r f Rw Cl).1 (mFm r Rw Cl) (mSb r Rw Cl) i2).1) (mFm r Rw Cl + i2)))]) (va_runV (As := [.int (nI (mFm r Rw Cl + i2))]) (rest := []) ⟨hx, hb, hml, hown, hts⟩ (mr_isSeen l G ad iS iA iL iT (nI (mDrv r Rw Cl ((mFm r Rw Cl) / Cl)).2) (nI (mDrv r Rw Cl ((mFm r Rw Cl) / Cl)).1) ((mS2 (mP1 r f Rw Cl).1 (mFm r Rw Cl) (mSb r Rw Cl) i2).1) pr ar br (mStF r f Rw Cl) pf af bf tx (mFm r Rw Cl + i2) (by omega)) (cwV 1 hts (lw_V q1221 q1223 qs27 q73 q1224) rfl rfl rfl (by decide +kernel) ⟨Nat.le_of_ble_eq_true rfl, Nat.le_of_ble_eq_true rfl⟩) (oPc.preV hE (hE.recv (ci := 12) (hP 0 _ rfl) rfl) hP) rfl rfl hl.1 rfl (lv_room (Nat.le_of_ble_eq_true rfl)) dX5_step_101 ⟨Nat.le_of_ble_eq_true rfl, Nat.le_of_ble_eq_true rfl⟩) rfl ?_
      refine ol_if_neB hx hb (sn ((mS2 (mP1 r f Rw Cl).1 (mFm r Rw Cl) (mSb r Rw Cl) i2).1) (mFm r Rw Cl + i2)) (tgt := 144) dX5_step_104 (by decide) (fun c_104 => ?_) (fun c_104 => ?_)
      · refine ol_iinc (k := 0) (lv' := [(6, .int (nI (i2 + 1))), (3, .int (nI (mSb r Rw Cl))), (2, .int (nI (mFm r Rw Cl))), (1, .int (nI Cl)), (0, .ref (ad 0)), (4, .int (nI (mStN r f Rw Cl))), (5, .int (nI ((mS2 (mP1 r f Rw Cl).1 (mFm r Rw Cl) (mSb r Rw Cl) i2).2)))]) hx hb 1 i2 dX5_step_144 hl rfl (by decide) rfl (fun ls hl => ?_)
        refine lv_goto (tgt := 90) hx hb dX5_step_147 (by decide) ?_
        refine ih2 H locs ls (by omega) ⟨?_, ?_, ?_, hS⟩
        · rw [show (mS2 (mP1 r f Rw Cl).1 (mFm r Rw Cl) (mSb r Rw Cl) (i2 + 1)).2 = (mS2 (mP1 r f Rw Cl).1 (mFm r Rw Cl) (mSb r Rw Cl) i2).2 from by simp [mS2, c_47, Nat.not_lt.mpr c_47, c_93, Nat.not_le.mpr c_93, c_104]]; exact lv_sub hl [0, 1, 2, 3, 4, 5, 6] rfl
        · rw [show mS2 (mP1 r f Rw Cl).1 (mFm r Rw Cl) (mSb r Rw Cl) (i2 + 1) = ((mS2 (mP1 r f Rw Cl).1 (mFm r Rw Cl) (mSb r Rw Cl) i2).1, (mS2 (mP1 r f Rw Cl).1 (mFm r Rw Cl) (mSb r Rw Cl) i2).2) from by simp [mS2, c_47, Nat.not_lt.mpr c_47, c_93, Nat.not_le.mpr c_93, c_104]]; exact hP
        · exact mD_any hD
      · refine lv_iload_n hx hb dX5_step_107 rfl (lv_at hl 1 rfl) ?_
        refine lv_iload hx hb dX5_step_108 (lv_at hl 0 rfl) ?_
        refine lv_ishr hx hb dX5_step_110 ?_
        refine lv_iconst (v := 1) hx hb dX5_step_111 (by decide) ?_
        refine lv_iand hx hb dX5_step_112 ?_
        refine ol_top (y := zB (Nat.testBit (mSb r Rw Cl) i2)) (nb_bit (by omega) (by omega)) ?_
        refine lv_iconst (v := 1) hx hb dX5_step_113 (by decide) ?_
        refine ol_icmp_neB hx hb (Nat.testBit (mSb r Rw Cl) i2) (tgt := 144) dX5_step_114 (by decide) (fun c_114 => ?_) (fun c_114 => ?_)
        · refine ol_iinc (k := 0) (lv' := [(6, .int (nI (i2 + 1))), (3, .int (nI (mSb r Rw Cl))), (2, .int (nI (mFm r Rw Cl))), (1, .int (nI Cl)), (0, .ref (ad 0)), (4, .int (nI (mStN r f Rw Cl))), (5, .int (nI ((mS2 (mP1 r f Rw Cl).1 (mFm r Rw Cl) (mSb r Rw Cl) i2).2)))]) hx hb 1 i2 dX5_step_144 hl rfl (by decide) rfl (fun ls hl => ?_)
          refine lv_goto (tgt := 90) hx hb dX5_step_147 (by decide) ?_
          refine ih2 H locs ls (by omega) ⟨?_, ?_, ?_, hS⟩
          · rw [show (mS2 (mP1 r f Rw Cl).1 (mFm r Rw Cl) (mSb r Rw Cl) (i2 + 1)).2 = (mS2 (mP1 r f Rw Cl).1 (mFm r Rw Cl) (mSb r Rw Cl) i2).2 from by simp [mS2, c_47, Nat.not_lt.mpr c_47, c_93, Nat.not_le.mpr c_93, c_104, c_114]]; exact lv_sub hl [0, 1, 2, 3, 4, 5, 6] rfl
          · rw [show mS2 (mP1 r f Rw Cl).1 (mFm r Rw Cl) (mSb r Rw Cl) (i2 + 1) = ((mS2 (mP1 r f Rw Cl).1 (mFm r Rw Cl) (mSb r Rw Cl) i2).1, (mS2 (mP1 r f Rw Cl).1 (mFm r Rw Cl) (mSb r Rw Cl) i2).2) from by simp [mS2, c_47, Nat.not_lt.mpr c_47, c_93, Nat.not_le.mpr c_93, c_104, c_114]]; exact hP
          · exact mD_any hD
        · refine lv_aload_n hx hb dX5_step_117 rfl (lv_at hl 4 rfl) ?_
          refine va_get (D := G.1) (ci := 12) (v := .ref (ad 1)) (C := RX5) (T := TX5) (N := 15) hx hb hts in_X5 hown hE.1 hP 0 rfl rfl 0 (by decide) (hts _ q1135) (fun _ h9 => h9) rfl dX5_step_118 ?_
          refine lv_bipush (v := 68) hx hb dX5_step_121 (by decide) ?_
          refine lv_iload_n hx hb dX5_step_123 rfl (lv_at hl 2 rfl) ?_
          refine ol_iadd hx hb 68 (mFm r Rw Cl) dX5_step_124 ?_
          refine lv_iload hx hb dX5_step_125 (lv_at hl 0 rfl) ?_
          refine ol_iadd hx hb (68 + (mFm r Rw Cl)) i2 dX5_step_127 ?_
          refine lv_aload_n hx hb dX5_step_128 rfl (lv_at hl 4 rfl) ?_
          refine va_get (D := G.1) (ci := 12) (v := .ref (ad 1)) (C := RX5) (T := TX5) (N := 15) hx hb hts in_X5 hown hE.1 hP 0 rfl rfl 0 (by decide) (hts _ q1135) (fun _ h9 => h9) rfl dX5_step_129 ?_
          refine lv_iconst (v := 2) hx hb dX5_step_132 (by decide) ?_
          refine ol_iald hx hb hE.1 hP 1 0 rfl rfl 2 (by decide) (by decide) dX5_step_133 ?_
          refine ol_iast hx hb hE.1 hP hD hS 1 0 rfl rfl (68 + (mFm r Rw Cl) + i2) (by omega) (by decide) dX5_step_134 (fun H locs hP hD hS => ?_)
          replace hP : va_P G.1 cl0 (mW G ad iS iA iL iT (nI (mDrv r Rw Cl ((mFm r Rw Cl) / Cl)).2) (nI (mDrv r Rw Cl ((mFm r Rw Cl) / Cl)).1) (upd ((mS2 (mP1 r f Rw Cl).1 (mFm r Rw Cl) (mSb r Rw Cl) i2).1) (68 + (mFm r Rw Cl) + i2) (((mS2 (mP1 r f Rw Cl).1 (mFm r Rw Cl) (mSb r Rw Cl) i2).1) 2)) pr ar br (mStF r f Rw Cl) pf af bf tx) H := hP
          replace hD : va_D (va_A (mW G ad iS iA iL iT iC iR r pr ar br f pf af bf tx) s.heap.size) (mW G ad iS iA iL iT (nI (mDrv r Rw Cl ((mFm r Rw Cl) / Cl)).2) (nI (mDrv r Rw Cl ((mFm r Rw Cl) / Cl)).1) (upd ((mS2 (mP1 r f Rw Cl).1 (mFm r Rw Cl) (mSb r Rw Cl) i2).1) (68 + (mFm r Rw Cl) + i2) (((mS2 (mP1 r f Rw Cl).1 (mFm r Rw Cl) (mSb r Rw Cl) i2).1) 2)) pr ar br (mStF r f Rw Cl) pf af bf tx) := hD
          refine lv_iload hx hb dX5_step_135 (lv_at hl 6 rfl) ?_
          refine lv_iconst (v := 1) hx hb dX5_step_137 (by decide) ?_
          refine lv_iload hx hb dX5_step_138 (lv_at hl 0 rfl) ?_
          refine lv_ishl hx hb dX5_step_140 ?_
          refine ol_top (y := nI (2 ^ i2)) (nb_shl (by omega)) ?_
          refine ol_ior hx hb ((mS2 (mP1 r f Rw Cl).1 (mFm r Rw Cl) (mSb r Rw Cl) i2).2) (2 ^ i2) dX5_step_141 ?_
          refine lv_istore (lv' := [(5, .int (nI (((mS2 (mP1 r f Rw Cl).1 (mFm r Rw Cl) (mSb r Rw Cl) i2).2) ||| (2 ^ i2)))), (6, .int (nI i2)), (3, .int (nI (mSb r Rw Cl))), (2, .int (nI (mFm r Rw Cl))), (1, .int (nI Cl)), (0, .ref (ad 0)), (4, .int (nI (mStN r f Rw Cl)))]) hx hb dX5_step_142 hl (by decide) rfl (fun ls hl => ?_)
          refine ol_iinc (k := 1) (lv' := [(6, .int (nI (i2 + 1))), (5, .int (nI (((mS2 (mP1 r f Rw Cl).1 (mFm r Rw Cl) (mSb r Rw Cl) i2).2) ||| (2 ^ i2)))), (3, .int (nI (mSb r Rw Cl))), (2, .int (nI (mFm r Rw Cl))), (1, .int (nI Cl)), (0, .ref (ad 0)), (4, .int (nI (mStN r f Rw Cl)))]) hx hb 1 i2 dX5_step_144 hl rfl (by decide) rfl (fun ls hl => ?_)
          refine lv_goto (tgt := 90) hx hb dX5_step_147 (by decide) ?_
          refine ih2 H locs ls (by omega) ⟨?_, ?_, ?_, hS⟩
          · rw [show (mS2 (mP1 r f Rw Cl).1 (mFm r Rw Cl) (mSb r Rw Cl) (i2 + 1)).2 = ((mS2 (mP1 r f Rw Cl).1 (mFm r Rw Cl) (mSb r Rw Cl) i2).2) ||| (2 ^ i2) from by simp [mS2, c_47, Nat.not_lt.mpr c_47, c_93, Nat.not_le.mpr c_93, c_104, c_114]]; exact lv_sub hl [0, 2, 3, 4, 5, 6, 1] rfl
          · rw [show mS2 (mP1 r f Rw Cl).1 (mFm r Rw Cl) (mSb r Rw Cl) (i2 + 1) = (upd ((mS2 (mP1 r f Rw Cl).1 (mFm r Rw Cl) (mSb r Rw Cl) i2).1) (68 + (mFm r Rw Cl) + i2) (((mS2 (mP1 r f Rw Cl).1 (mFm r Rw Cl) (mSb r Rw Cl) i2).1) 2), ((mS2 (mP1 r f Rw Cl).1 (mFm r Rw Cl) (mSb r Rw Cl) i2).2) ||| (2 ^ i2)) from by simp [mS2, c_47, Nat.not_lt.mpr c_47, c_93, Nat.not_le.mpr c_93, c_104, c_114]]; exact hP
          · exact mD_any hD
  · refine lv_aload_n hx hb dX5_step_50 rfl (lv_at hl 5 rfl) ?_
    refine lv_iload_n hx hb dX5_step_51 rfl (lv_at hl 3 rfl) ?_
    refine lv_iload hx hb dX5_step_52 (lv_at hl 0 rfl) ?_
    refine ol_iadd hx hb (mFm r Rw Cl) i1 dX5_step_54 ?_
    refine ol_cR (st1 := [.int (zB (sn ((mS1 r f (Rw * Cl) (mFm r Rw Cl) (mSb r Rw Cl) i1).1) (mFm r Rw Cl + i1)))]) (va_runV (As := [.int (nI (mFm r Rw Cl + i1))]) (rest := []) ⟨hx, hb, hml, hown, hts⟩ (mr_isSeen l G ad iS iA iL iT (nI (mDrv r Rw Cl ((mFm r Rw Cl) / Cl)).2) (nI (mDrv r Rw Cl ((mFm r Rw Cl) / Cl)).1) ((mS1 r f (Rw * Cl) (mFm r Rw Cl) (mSb r Rw Cl) i1).1) pr ar br ((mS1 r f (Rw * Cl) (mFm r Rw Cl) (mSb r Rw Cl) i1).2.1) pf af bf tx (mFm r Rw Cl + i1) (by omega)) (cwV 1 hts (lw_V q1221 q1223 qs27 q73 q1224) rfl rfl rfl (by decide +kernel) ⟨Nat.le_of_ble_eq_true rfl, Nat.le_of_ble_eq_true rfl⟩) (oPc.preV hE (hE.recv (ci := 12) (hP 0 _ rfl) rfl) hP) rfl rfl hl.1 rfl (lv_room (Nat.le_of_ble_eq_true rfl)) dX5_step_55 ⟨Nat.le_of_ble_eq_true rfl, Nat.le_of_ble_eq_true rfl⟩) rfl ?_
    refine ol_if_eqB hx hb (sn ((mS1 r f (Rw * Cl) (mFm r Rw Cl) (mSb r Rw Cl) i1).1) (mFm r Rw Cl + i1)) (tgt := 81) dX5_step_58 (by decide) (fun c_58 => ?_) (fun c_58 => ?_)
    · refine ol_iinc (k := 0) (lv' := [(6, .int (nI (i1 + 1))), (5, .int 0), (3, .int (nI (mSb r Rw Cl))), (2, .int (nI (mFm r Rw Cl))), (1, .int (nI Cl)), (0, .ref (ad 0)), (4, .int (nI ((mS1 r f (Rw * Cl) (mFm r Rw Cl) (mSb r Rw Cl) i1).2.2)))]) hx hb 1 i1 dX5_step_81 hl rfl (by decide) rfl (fun ls hl => ?_)
      refine lv_goto (tgt := 44) hx hb dX5_step_84 (by decide) ?_
      refine ih1 H locs ls (by omega) ⟨?_, ?_, ?_, hS⟩
      · rw [show (mS1 r f (Rw * Cl) (mFm r Rw Cl) (mSb r Rw Cl) (i1 + 1)).2.2 = (mS1 r f (Rw * Cl) (mFm r Rw Cl) (mSb r Rw Cl) i1).2.2 from by simp [mS1, c_47, Nat.not_le.mpr c_47, c_58]]; exact lv_sub hl [0, 1, 2, 3, 4, 5, 6] rfl
      · rw [show mS1 r f (Rw * Cl) (mFm r Rw Cl) (mSb r Rw Cl) (i1 + 1) = ((mS1 r f (Rw * Cl) (mFm r Rw Cl) (mSb r Rw Cl) i1).1, (mS1 r f (Rw * Cl) (mFm r Rw Cl) (mSb r Rw Cl) i1).2.1, (mS1 r f (Rw * Cl) (mFm r Rw Cl) (mSb r Rw Cl) i1).2.2) from by simp [mS1, c_47, Nat.not_le.mpr c_47, c_58]]; exact hP
      · exact mD_any hD
    · refine lv_iload_n hx hb dX5_step_61 rfl (lv_at hl 2 rfl) ?_
      refine lv_iload hx hb dX5_step_62 (lv_at hl 0 rfl) ?_
      refine lv_ishr hx hb dX5_step_64 ?_
      refine lv_iconst (v := 1) hx hb dX5_step_65 (by decide) ?_
      refine lv_iand hx hb dX5_step_66 ?_
      refine ol_top (y := zB (Nat.testBit (mSb r Rw Cl) i1)) (nb_bit (by omega) (by omega)) ?_
      refine ol_if_neB hx hb (Nat.testBit (mSb r Rw Cl) i1) (tgt := 81) dX5_step_67 (by decide) (fun c_67 => ?_) (fun c_67 => ?_)
      · refine ol_iinc (k := 0) (lv' := [(6, .int (nI (i1 + 1))), (5, .int 0), (3, .int (nI (mSb r Rw Cl))), (2, .int (nI (mFm r Rw Cl))), (1, .int (nI Cl)), (0, .ref (ad 0)), (4, .int (nI ((mS1 r f (Rw * Cl) (mFm r Rw Cl) (mSb r Rw Cl) i1).2.2)))]) hx hb 1 i1 dX5_step_81 hl rfl (by decide) rfl (fun ls hl => ?_)
        refine lv_goto (tgt := 44) hx hb dX5_step_84 (by decide) ?_
        refine ih1 H locs ls (by omega) ⟨?_, ?_, ?_, hS⟩
        · rw [show (mS1 r f (Rw * Cl) (mFm r Rw Cl) (mSb r Rw Cl) (i1 + 1)).2.2 = (mS1 r f (Rw * Cl) (mFm r Rw Cl) (mSb r Rw Cl) i1).2.2 from by simp [mS1, c_47, Nat.not_le.mpr c_47, c_58, c_67]]; exact lv_sub hl [0, 1, 2, 3, 4, 5, 6] rfl
        · rw [show mS1 r f (Rw * Cl) (mFm r Rw Cl) (mSb r Rw Cl) (i1 + 1) = ((mS1 r f (Rw * Cl) (mFm r Rw Cl) (mSb r Rw Cl) i1).1, (mS1 r f (Rw * Cl) (mFm r Rw Cl) (mSb r Rw Cl) i1).2.1, (mS1 r f (Rw * Cl) (mFm r Rw Cl) (mSb r Rw Cl) i1).2.2) from by simp [mS1, c_47, Nat.not_le.mpr c_47, c_58, c_67]]; exact hP
        · exact mD_any hD
      · refine lv_aload_n hx hb dX5_step_70 rfl (lv_at hl 5 rfl) ?_
        refine lv_iload_n hx hb dX5_step_71 rfl (lv_at hl 3 rfl) ?_
        refine lv_iload hx hb dX5_step_72 (lv_at hl 0 rfl) ?_
        refine ol_iadd hx hb (mFm r Rw Cl) i1 dX5_step_74 ?_
        refine ol_cM (st1 := []) (va_runV (As := [.int (nI (mFm r Rw Cl + i1))]) (rest := []) ⟨hx, hb, hml, hown, hts⟩ (mm_endStroke l G ad iS iA iL iT (nI (mDrv r Rw Cl ((mFm r Rw Cl) / Cl)).2) (nI (mDrv r Rw Cl ((mFm r Rw Cl) / Cl)).1) ((mS1 r f (Rw * Cl) (mFm r Rw Cl) (mSb r Rw Cl) i1).1) pr ar br ((mS1 r f (Rw * Cl) (mFm r Rw Cl) (mSb r Rw Cl) i1).2.1) pf af bf tx (mFm r Rw Cl + i1) Rw Cl hs1a (by omega) hs1h hs1i hs1d hs1f hs1g hs1e H.size) (cwV 1 hts (lw_V q1300 q1302 qs37 q73 q1303) rfl rfl rfl (by decide +kernel) ⟨Nat.le_of_ble_eq_true rfl, Nat.le_of_ble_eq_true rfl⟩) (oPc.preV hE (hE.recv (ci := 12) (hP 0 _ rfl) rfl) ⟨rfl, hP, oD_weak hD (fun _ _ => trivial), trivial⟩) rfl rfl hl.1 rfl (lv_room (Nat.le_of_ble_eq_true rfl)) dX5_step_75 ⟨Nat.le_of_ble_eq_true rfl, Nat.le_of_ble_eq_true rfl⟩) hP hD hS hA rfl (fun H locs hP hD hS => ?_)
        refine ol_iinc (k := 6) (lv' := [(4, .int (nI ((mS1 r f (Rw * Cl) (mFm r Rw Cl) (mSb r Rw Cl) i1).2.2 + 1))), (6, .int (nI i1)), (5, .int 0), (3, .int (nI (mSb r Rw Cl))), (2, .int (nI (mFm r Rw Cl))), (1, .int (nI Cl)), (0, .ref (ad 0))]) hx hb 1 ((mS1 r f (Rw * Cl) (mFm r Rw Cl) (mSb r Rw Cl) i1).2.2) dX5_step_78 hl rfl (by decide) rfl (fun ls hl => ?_)
        refine ol_iinc (k := 1) (lv' := [(6, .int (nI (i1 + 1))), (4, .int (nI ((mS1 r f (Rw * Cl) (mFm r Rw Cl) (mSb r Rw Cl) i1).2.2 + 1))), (5, .int 0), (3, .int (nI (mSb r Rw Cl))), (2, .int (nI (mFm r Rw Cl))), (1, .int (nI Cl)), (0, .ref (ad 0))]) hx hb 1 i1 dX5_step_81 hl rfl (by decide) rfl (fun ls hl => ?_)
        refine lv_goto (tgt := 44) hx hb dX5_step_84 (by decide) ?_
        refine ih1 H locs ls (by omega) ⟨?_, ?_, ?_, hS⟩
        · rw [show (mS1 r f (Rw * Cl) (mFm r Rw Cl) (mSb r Rw Cl) (i1 + 1)).2.2 = (mS1 r f (Rw * Cl) (mFm r Rw Cl) (mSb r Rw Cl) i1).2.2 + 1 from by simp [mS1, c_47, Nat.not_le.mpr c_47, c_58, c_67]]; exact lv_sub hl [0, 2, 3, 4, 5, 6, 1] rfl
        · rw [show mS1 r f (Rw * Cl) (mFm r Rw Cl) (mSb r Rw Cl) (i1 + 1) = (mEndR ((mS1 r f (Rw * Cl) (mFm r Rw Cl) (mSb r Rw Cl) i1).1) ((mS1 r f (Rw * Cl) (mFm r Rw Cl) (mSb r Rw Cl) i1).2.1) (Rw * Cl) (mFm r Rw Cl + i1), mEndF ((mS1 r f (Rw * Cl) (mFm r Rw Cl) (mSb r Rw Cl) i1).1) ((mS1 r f (Rw * Cl) (mFm r Rw Cl) (mSb r Rw Cl) i1).2.1) (mFm r Rw Cl + i1), (mS1 r f (Rw * Cl) (mFm r Rw Cl) (mSb r Rw Cl) i1).2.2 + 1) from by simp [mS1, c_47, Nat.not_le.mpr c_47, c_58, c_67]]; exact hP
        · exact mD_any hD
