/-! THE JDK: methods without a heap -/
def fnan (v : UInt32) : Bool := !decide (Op.cmpValue (FP.fcmp v v) .l = 0)
set_option maxHeartbeats 4000000 in
set_option maxRecDepth 100000 in
theorem jk_isNaN (l : Launch) (G : oG) (v : UInt32)  : Met l yJ12_isNaN (ws_ yJ12_isNaN cJ12_isNaN 1 (some .boolean)) ({ frames := 0, cells := 0, slots := 0, locals := 0 }) (oPc G [.float v] (fun _ => True)) (oR (some (.int (zB (fnan v))))) 0 0 (fun _ => False) := by
  refine va_MetF (cc := cJ12_isNaN) (maxL := 1) (ret := (some .boolean)) (by decide +kernel) rfl ?_
  intro p e s m args below meth c s₁ B hml hv
  obtain ⟨rfl, hP, hE⟩ := hv
  have hx := B.exec
  have hb := B.bytes
  have hr := B.returns
  have hts := atoms_spec (ws := ws_ yJ12_isNaN cJ12_isNaN 1 (some .boolean)) B.pre
  have hts : ∀ w ∈ lw_all, w.before _ s = true := fun w h => hts w (List.mem_cons_of_mem _ h)
  have hown : s.vm.findClass RJ12 = some m.cls := findClass_of_methodNamed B.named
  have hlocks := B.notSynchronized
  have hl := lv_entry ([.float v]) (n := 1) (Nat.le_of_ble_eq_true rfl)
  rw [lg_entry_eq]
  generalize (lg_sl ([.float v]) ++ List.replicate (1 - (lg_sl ([.float v])).length) Slot.unset).toArray = ls at hl ⊢
  replace hl : lv_has ls 1 [(0, .float v)] := hl
  refine lv_fload_n hx hb dJ12_isNaN_0 rfl (lv_at hl 0 rfl) ?_
  refine lv_fload_n hx hb dJ12_isNaN_1 rfl (lv_at hl 0 rfl) ?_
  refine lv_fcmp hx hb dJ12_isNaN_2 ?_
  refine lv_if_eq (tgt := 10) hx hb dJ12_isNaN_3 (by decide) (fun c_3 => ?_) (fun c_3 => ?_)
  · refine lv_iconst (v := 0) hx hb dJ12_isNaN_10 (by decide) ?_
    exact ol_zretR hx hb hr hlocks rfl (by simp [fnan, zB, c_3]) dJ12_isNaN_11
  · refine lv_iconst (v := 1) hx hb dJ12_isNaN_6 (by decide) ?_
    refine lv_goto (tgt := 11) hx hb dJ12_isNaN_7 (by decide) ?_
    exact ol_zretR hx hb hr hlocks rfl (by simp [fnan, zB, c_3]) dJ12_isNaN_11
set_option maxHeartbeats 4000000 in
set_option maxRecDepth 100000 in
theorem jk_floatToIntBits (l : Launch) (G : oG) (v : UInt32) (hv : fnan v = false) : Met l yJ12_floatToIntBits (ws_ yJ12_floatToIntBits cJ12_floatToIntBits 1 (some .int)) ({ frames := 1, cells := 0, slots := 0, locals := 20 }) (oPc G [.float v] (fun _ => True)) (oR (some (.int v.toInt32))) 0 0 (fun _ => False) := by
  refine va_MetF (cc := cJ12_floatToIntBits) (maxL := 1) (ret := (some .int)) (by decide +kernel) rfl ?_
  intro p e s m args below meth c s₁ B hml hv
  obtain ⟨rfl, hP, hE⟩ := hv
  have hx := B.exec
  have hb := B.bytes
  have hr := B.returns
  have hts := atoms_spec (ws := ws_ yJ12_floatToIntBits cJ12_floatToIntBits 1 (some .int)) B.pre
  have hts : ∀ w ∈ lw_all, w.before _ s = true := fun w h => hts w (List.mem_cons_of_mem _ h)
  have hown : s.vm.findClass RJ12 = some m.cls := findClass_of_methodNamed B.named
  have hlocks := B.notSynchronized
  have hl := lv_entry ([.float v]) (n := 1) (Nat.le_of_ble_eq_true rfl)
  rw [lg_entry_eq]
  generalize (lg_sl ([.float v]) ++ List.replicate (1 - (lg_sl ([.float v])).length) Slot.unset).toArray = ls at hl ⊢
  replace hl : lv_has ls 1 [(0, .float v)] := hl
  refine lv_fload_n hx hb dJ12_floatToIntBits_0 rfl (lv_at hl 0 rfl) ?_
  refine ol_cR (st1 := [.int (zB (fnan v))]) (va_runS (As := [.float v]) (rest := []) ⟨hx, hb, hml, hown, hts⟩ (jk_isNaN l G v ) (va_cwS 1 hts (lw_S q1259 q1260 q77 q1261) rfl rfl rfl (by decide +kernel) ⟨Nat.le_of_ble_eq_true rfl, Nat.le_of_ble_eq_true rfl⟩) (oPc.preS hE trivial) rfl rfl hl.1 rfl (lv_room (Nat.le_of_ble_eq_true rfl)) dJ12_floatToIntBits_1 ⟨Nat.le_of_ble_eq_true rfl, Nat.le_of_ble_eq_true rfl⟩) rfl ?_
  refine ol_if_neB hx hb (fnan v) (tgt := 12) dJ12_floatToIntBits_4 (by decide) (fun c_4 => ?_) (fun c_4 => ?_)
  · exact absurd (hv.symm.trans c_4) (by decide)
  · refine lv_fload_n hx hb dJ12_floatToIntBits_7 rfl (lv_at hl 0 rfl) ?_
    refine vn_f2i hx hb (by rw [hml]; exact hl.1.symm) hown (hts _ q1262) (hts _ q555) (hts _ q554) (hts _ q77) (Nat.le_of_ble_eq_true rfl) (Nat.le_of_ble_eq_true rfl) dJ12_floatToIntBits_8 ?_
    exact ol_iretR hx hb hr hlocks rfl rfl dJ12_floatToIntBits_11
