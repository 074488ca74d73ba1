/-! THE JDK: Long.bitCount, as it computes -/
def bc1 (y : Int64) : Int64 := y - (((y.toUInt64 >>> ((1 : Int32).toInt64.toUInt64 &&& Int64.toUInt64 63)).toInt64) &&& 6148914691236517205)
def bc2 (y : Int64) : Int64 := (y &&& 3689348814741910323) + (((y.toUInt64 >>> ((2 : Int32).toInt64.toUInt64 &&& Int64.toUInt64 63)).toInt64) &&& 3689348814741910323)
def bc3 (y : Int64) : Int64 := (y + ((y.toUInt64 >>> ((4 : Int32).toInt64.toUInt64 &&& Int64.toUInt64 63)).toInt64)) &&& 1085102592571150095
def bc4 (y : Int64) : Int64 := y + ((y.toUInt64 >>> ((8 : Int32).toInt64.toUInt64 &&& Int64.toUInt64 63)).toInt64)
def bc5 (y : Int64) : Int64 := y + ((y.toUInt64 >>> ((16 : Int32).toInt64.toUInt64 &&& Int64.toUInt64 63)).toInt64)
def bc6 (y : Int64) : Int64 := y + ((y.toUInt64 >>> ((32 : Int32).toInt64.toUInt64 &&& Int64.toUInt64 63)).toInt64)
set_option maxHeartbeats 4000000 in
set_option maxRecDepth 100000 in
theorem jk_bitCount (l : Launch) (G : oG) (x : Int64)  : Met l yJ17_bitCount (ws_ yJ17_bitCount cJ17_bitCount 2 (some .int)) ({ frames := 0, cells := 0, slots := 0, locals := 0 }) (oPc G [.long x] (fun _ => True)) (oR (some (.int ((bc6 (bc5 (bc4 (bc3 (bc2 (bc1 x)))))).toInt32 &&& 127)))) 0 0 (fun _ => False) := by
  refine Met.ofW (cc := cJ17_bitCount) (maxL := 2) (ret := (some .int)) (by decide) rfl ?_
  intro p e s m args below meth c s₁ B hml hv
  obtain ⟨rfl, hP, hE⟩ := hv
  have hx := B.exec
  have hb := B.bytes
  have hr := B.returns
  have hts := atoms_spec (ws := ws_ yJ17_bitCount cJ17_bitCount 2 (some .int)) B.pre
  have hts : ∀ w ∈ lw_all, w.before _ s = true := fun w h => hts w (List.mem_cons_of_mem _ h)
  have hown : s.vm.findClass RJ17 = some m.cls := findClass_of_methodNamed B.named
  have hlocks := B.notSynchronized
  have hl := lv_entry ([.long x]) (n := 2) (Nat.le_of_ble_eq_true rfl)
  rw [lg_entry_eq]
  generalize (lg_sl ([.long x]) ++ List.replicate (2 - (lg_sl ([.long x])).length) Slot.unset).toArray = ls at hl ⊢
  replace hl : lv_has ls 2 [(0, .long x)] := hl
  refine lv_lload_n hx hb dJ17_bitCount_0 rfl (lv_at hl 0 rfl) ?_
  refine lv_lload_n hx hb dJ17_bitCount_1 rfl (lv_at hl 0 rfl) ?_
  refine lv_iconst (v := 1) hx hb dJ17_bitCount_2 (by decide) ?_
  refine lv_lushr (v := (x.toUInt64 >>> ((1 : Int32).toInt64.toUInt64 &&& Int64.toUInt64 63)).toInt64) hx hb dJ17_bitCount_3 rfl ?_
  refine lv_ldc2 hx hb hown (hts _ q1105) dJ17_bitCount_4 ?_
  refine lv_land hx hb dJ17_bitCount_7 ?_
  refine lv_lsub hx hb dJ17_bitCount_8 ?_
  refine lv_lstore_n (lv' := [(0, .long (x - (((x.toUInt64 >>> ((1 : Int32).toInt64.toUInt64 &&& Int64.toUInt64 63)).toInt64) &&& 6148914691236517205)))]) hx hb dJ17_bitCount_9 rfl hl (by decide) rfl (fun ls hl => ?_)
  replace hl : lv_has ls 2 [(0, .long (bc1 x))] := hl
  refine lv_lload_n hx hb dJ17_bitCount_10 rfl (lv_at hl 0 rfl) ?_
  refine lv_ldc2 hx hb hown (hts _ q1106) dJ17_bitCount_11 ?_
  refine lv_land hx hb dJ17_bitCount_14 ?_
  refine lv_lload_n hx hb dJ17_bitCount_15 rfl (lv_at hl 0 rfl) ?_
  refine lv_iconst (v := 2) hx hb dJ17_bitCount_16 (by decide) ?_
  refine lv_lushr (v := ((bc1 x).toUInt64 >>> ((2 : Int32).toInt64.toUInt64 &&& Int64.toUInt64 63)).toInt64) hx hb dJ17_bitCount_17 rfl ?_
  refine lv_ldc2 hx hb hown (hts _ q1106) dJ17_bitCount_18 ?_
  refine lv_land hx hb dJ17_bitCount_21 ?_
  refine lv_ladd hx hb dJ17_bitCount_22 ?_
  refine lv_lstore_n (lv' := [(0, .long (((bc1 x) &&& 3689348814741910323) + ((((bc1 x).toUInt64 >>> ((2 : Int32).toInt64.toUInt64 &&& Int64.toUInt64 63)).toInt64) &&& 3689348814741910323)))]) hx hb dJ17_bitCount_23 rfl hl (by decide) rfl (fun ls hl => ?_)
  replace hl : lv_has ls 2 [(0, .long (bc2 (bc1 x)))] := hl
  refine lv_lload_n hx hb dJ17_bitCount_24 rfl (lv_at hl 0 rfl) ?_
  refine lv_lload_n hx hb dJ17_bitCount_25 rfl (lv_at hl 0 rfl) ?_
  refine lv_iconst (v := 4) hx hb dJ17_bitCount_26 (by decide) ?_
  refine lv_lushr (v := ((bc2 (bc1 x)).toUInt64 >>> ((4 : Int32).toInt64.toUInt64 &&& Int64.toUInt64 63)).toInt64) hx hb dJ17_bitCount_27 rfl ?_
  refine lv_ladd hx hb dJ17_bitCount_28 ?_
  refine lv_ldc2 hx hb hown (hts _ q1107) dJ17_bitCount_29 ?_
  refine lv_land hx hb dJ17_bitCount_32 ?_
  refine lv_lstore_n (lv' := [(0, .long (((bc2 (bc1 x)) + (((bc2 (bc1 x)).toUInt64 >>> ((4 : Int32).toInt64.toUInt64 &&& Int64.toUInt64 63)).toInt64)) &&& 1085102592571150095))]) hx hb dJ17_bitCount_33 rfl hl (by decide) rfl (fun ls hl => ?_)
  replace hl : lv_has ls 2 [(0, .long (bc3 (bc2 (bc1 x))))] := hl
  refine lv_lload_n hx hb dJ17_bitCount_34 rfl (lv_at hl 0 rfl) ?_
  refine lv_lload_n hx hb dJ17_bitCount_35 rfl (lv_at hl 0 rfl) ?_
  refine lv_bipush (v := 8) hx hb dJ17_bitCount_36 (by decide) ?_
  refine lv_lushr (v := ((bc3 (bc2 (bc1 x))).toUInt64 >>> ((8 : Int32).toInt64.toUInt64 &&& Int64.toUInt64 63)).toInt64) hx hb dJ17_bitCount_38 rfl ?_
  refine lv_ladd hx hb dJ17_bitCount_39 ?_
  refine lv_lstore_n (lv' := [(0, .long ((bc3 (bc2 (bc1 x))) + (((bc3 (bc2 (bc1 x))).toUInt64 >>> ((8 : Int32).toInt64.toUInt64 &&& Int64.toUInt64 63)).toInt64)))]) hx hb dJ17_bitCount_40 rfl hl (by decide) rfl (fun ls hl => ?_)
  replace hl : lv_has ls 2 [(0, .long (bc4 (bc3 (bc2 (bc1 x)))))] := hl
  refine lv_lload_n hx hb dJ17_bitCount_41 rfl (lv_at hl 0 rfl) ?_
  refine lv_lload_n hx hb dJ17_bitCount_42 rfl (lv_at hl 0 rfl) ?_
  refine lv_bipush (v := 16) hx hb dJ17_bitCount_43 (by decide) ?_
  refine lv_lushr (v := ((bc4 (bc3 (bc2 (bc1 x)))).toUInt64 >>> ((16 : Int32).toInt64.toUInt64 &&& Int64.toUInt64 63)).toInt64) hx hb dJ17_bitCount_45 rfl ?_
  refine lv_ladd hx hb dJ17_bitCount_46 ?_
  refine lv_lstore_n (lv' := [(0, .long ((bc4 (bc3 (bc2 (bc1 x)))) + (((bc4 (bc3 (bc2 (bc1 x)))).toUInt64 >>> ((16 : Int32).toInt64.toUInt64 &&& Int64.toUInt64 63)).toInt64)))]) hx hb dJ17_bitCount_47 rfl hl (by decide) rfl (fun ls hl => ?_)
  replace hl : lv_has ls 2 [(0, .long (bc5 (bc4 (bc3 (bc2 (bc1 x))))))] := hl
  refine lv_lload_n hx hb dJ17_bitCount_48 rfl (lv_at hl 0 rfl) ?_
  refine lv_lload_n hx hb dJ17_bitCount_49 rfl (lv_at hl 0 rfl) ?_
  refine lv_bipush (v := 32) hx hb dJ17_bitCount_50 (by decide) ?_
  refine lv_lushr (v := ((bc5 (bc4 (bc3 (bc2 (bc1 x))))).toUInt64 >>> ((32 : Int32).toInt64.toUInt64 &&& Int64.toUInt64 63)).toInt64) hx hb dJ17_bitCount_52 rfl ?_
  refine lv_ladd hx hb dJ17_bitCount_53 ?_
  refine lv_lstore_n (lv' := [(0, .long ((bc5 (bc4 (bc3 (bc2 (bc1 x))))) + (((bc5 (bc4 (bc3 (bc2 (bc1 x))))).toUInt64 >>> ((32 : Int32).toInt64.toUInt64 &&& Int64.toUInt64 63)).toInt64)))]) hx hb dJ17_bitCount_54 rfl hl (by decide) rfl (fun ls hl => ?_)
  replace hl : lv_has ls 2 [(0, .long (bc6 (bc5 (bc4 (bc3 (bc2 (bc1 x)))))))] := hl
  refine lv_lload_n hx hb dJ17_bitCount_55 rfl (lv_at hl 0 rfl) ?_
  refine lv_l2i (v := (bc6 (bc5 (bc4 (bc3 (bc2 (bc1 x)))))).toInt32) hx hb dJ17_bitCount_56 rfl ?_
  refine lv_bipush (v := 127) hx hb dJ17_bitCount_57 (by decide) ?_
  refine lv_iand hx hb dJ17_bitCount_59 ?_
  exact ol_iretR hx hb hr hlocks rfl rfl dJ17_bitCount_60
