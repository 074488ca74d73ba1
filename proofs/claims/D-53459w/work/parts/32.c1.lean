/-! THE COMPONENT: small classes -/
/-- a value that a char field, a boolean field may hold -/
def oCh (x : Int32) : Prop := narrow .char (.int x) = .int x ∧ fits .char (.int x) = true
def oBl (x : Int32) : Prop := narrow .boolean (.int x) = .int x ∧ fits .boolean (.int x) = true
theorem oBl_z (b : Bool) : oBl (zB b) := ⟨zB_nar b, zB_fit b⟩
set_option maxHeartbeats 4000000 in
set_option maxRecDepth 100000 in
theorem jr_J0init (l : Launch) (G : oG) (a : Nat)  : Met l yJ0_init (ws_ yJ0_init cJ0_init 1 none) ({ frames := 1, cells := 0, slots := 0, locals := 12 }) (oPc G [.ref a] (fun _ => True)) (oR (none)) 0 0 (fun _ => False) := by
  refine Met.ofW (cc := cJ0_init) (maxL := 1) (ret := none) (by decide) rfl ?_
  intro p e s m args below meth c s₁ B hml hv
  obtain ⟨rfl, hP, hE⟩ := hv
  have hx := B.exec
  have hb := B.bytes
  have hr := B.returns
  have hts := atoms_spec (ws := ws_ yJ0_init cJ0_init 1 none) B.pre
  have hts : ∀ w ∈ lw_all, w.before _ s = true := fun w h => hts w (List.mem_cons_of_mem _ h)
  have hown : s.vm.findClass RJ0 = some m.cls := findClass_of_methodNamed B.named
  have hlocks := B.notSynchronized
  have hin : meth.name = "<init>" := (name_of_methodNamed B.named B.method).1
  have hl := lv_entry ([.ref a]) (n := 1) (Nat.le_of_ble_eq_true rfl)
  rw [lg_entry_eq]
  generalize (lg_sl ([.ref a]) ++ List.replicate (1 - (lg_sl ([.ref a])).length) Slot.unset).toArray = ls at hl ⊢
  replace hl : lv_has ls 1 [(0, .ref a)] := hl
  refine lv_aload_n hx hb dJ0_init_0 rfl (lv_at hl 0 rfl) ?_
  refine W.objInit hx hb hown (hts _ q113) (hts _ q94) (hts _ q95) rfl (by rw [hml]; exact hl.1) rfl dJ0_init_1 (Nat.le_of_ble_eq_true rfl) (Nat.le_of_ble_eq_true rfl) ?_
  refine W.eq (g2 := F0 m 4 ls []) rfl ?_
  exact ol_vretR hx hb hr hlocks rfl dJ0_init_4
set_option maxHeartbeats 4000000 in
set_option maxRecDepth 100000 in
theorem jm_J1init (l : Launch) (G : oG) (a : Nat)  (sz : Nat) : Met l yJ1_init (ws_ yJ1_init cJ1_init 1 none) ({ frames := 2, cells := 0, slots := 0, locals := 32 }) (oPc G [.ref a] (oPE G ([(a, .inr (9, [.int 0, .null, .int 0]))]) sz (fun _ => True))) (oE G (fun v_ W_ => v_ = none ∧ W_ = [(a, .inr (9, [.int 0, .null, .int 0]))]) ([(a, .inr (9, [.int 0, .null, .int 0]))]) sz) 0 0 (va_A ([(a, .inr (9, [.int 0, .null, .int 0]))]) sz) := by
  refine Met.ofW (cc := cJ1_init) (maxL := 1) (ret := none) (by decide) rfl ?_
  intro p e s m args below meth c s₁ B hml hv
  obtain ⟨rfl, ⟨hsz, hP, hD0, hX⟩, hE⟩ := hv
  have hx := B.exec
  have hb := B.bytes
  have hr := B.returns
  have hts := atoms_spec (ws := ws_ yJ1_init cJ1_init 1 none) B.pre
  have hts : ∀ w ∈ lw_all, w.before _ s = true := fun w h => hts w (List.mem_cons_of_mem _ h)
  have hown : s.vm.findClass RJ1 = some m.cls := findClass_of_methodNamed B.named
  have hlocks := B.notSynchronized
  have hin : meth.name = "<init>" := (name_of_methodNamed B.named B.method).1
  subst hsz
  obtain ⟨A, hAe⟩ : ∃ A, A = va_A ([(a, .inr (9, [.int 0, .null, .int 0]))]) s.heap.size := ⟨_, rfl⟩
  have hD : va_D A ([(a, .inr (9, [.int 0, .null, .int 0]))]) := by rw [hAe]; exact hD0.self
  have hA : ∀ q : Nat, s.heap.size ≤ q → A q := fun q h => by rw [hAe]; exact Or.inr h
  have hl := lv_entry ([.ref a]) (n := 1) (Nat.le_of_ble_eq_true rfl)
  rw [lg_entry_eq]
  generalize (lg_sl ([.ref a]) ++ List.replicate (1 - (lg_sl ([.ref a])).length) Slot.unset).toArray = ls at hl ⊢
  replace hl : lv_has ls 1 [(0, .ref a)] := hl
  have hP0 : va_P G.1 cl0 ([(a, .inr (9, [.int 0, .null, .int 0]))]) s.heap := hP
  refine ol_start (A := A) (fun H locs hH hS => ?_)
  rw [← hH] at hP
  clear hH
  refine lv_aload_n hx hb dJ1_init_0 rfl (lv_at hl 0 rfl) ?_
  refine ol_cR (st1 := []) (va_runI (As := []) (rest := []) ⟨hx, hb, hml, hown, hts⟩ (jr_J0init l G a) (cwI 0 hts (lw_meth q112) rfl rfl rfl (hts _ q59) (hts _ q110) (hts _ q111) rfl (by decide +kernel) ⟨Nat.le_of_ble_eq_true rfl, Nat.le_of_ble_eq_true rfl⟩) (oPc.preS hE trivial) rfl rfl hl.1 rfl (lv_room (Nat.le_of_ble_eq_true rfl)) dJ1_init_1 ⟨Nat.le_of_ble_eq_true rfl, Nat.le_of_ble_eq_true rfl⟩) rfl ?_
  refine lv_aload_n hx hb dJ1_init_4 rfl (lv_at hl 0 rfl) ?_
  refine lv_iconst (v := 0) hx hb dJ1_init_5 (by decide) ?_
  refine va_put (D := G.1) (ci := 9) (v := .int 0) (ty := .int) (C := RJ2) (T := TJ2) (N := 3) hx hb hts in_J2 tyJ2 tyJ2_ok nmJ2 hown hE.1 hP hD hS 0 rfl rfl 0 (by decide) (hts _ q118) (fun _ h9 => h9) rfl (by decide +kernel) rfl rfl (Nat.le_of_ble_eq_true rfl) dJ1_init_6 (fun H locs hP hD hS => ?_)
  replace hP : va_P G.1 cl0 ([(a, .inr (9, [.int 0, .null, .int 0]))]) H := hP
  replace hD : va_D A ([(a, .inr (9, [.int 0, .null, .int 0]))]) := hD
  subst hAe
  exact ol_vretE hx hb hr hlocks ⟨rfl, rfl⟩ hP hD hS dJ1_init_9
set_option maxHeartbeats 4000000 in
set_option maxRecDepth 100000 in
theorem jm_alInit (l : Launch) (G : oG) (Z : oZ) (a : Nat)  (sz : Nat) : Met l yJ2_init (ws_ yJ2_init cJ2_init 1 none) ({ frames := 3, cells := 0, slots := 0, locals := 52 }) (oPc1 G Z [.ref a] (oPE1 G Z ([(a, .inr (9, [.int 0, .null, .int 0]))]) sz (fun _ => True))) (oE G (fun v_ W_ => v_ = none ∧ W_ = alW G a (Z.2.2 0) 0 0 0 (fun _ => none)) ([(a, .inr (9, [.int 0, .null, .int 0]))]) sz) 0 0 (va_A ([(a, .inr (9, [.int 0, .null, .int 0]))]) sz) := by
  refine Met.ofW (cc := cJ2_init) (maxL := 1) (ret := none) (by decide) rfl ?_
  intro p e s m args below meth c s₁ B hml hv
  obtain ⟨rfl, ⟨hsz, hP, hDb, hB, hX⟩, hE⟩ := hv
  have hD0 : va_D (fun _ => True) ([(a, .inr (9, [.int 0, .null, .int 0]))]) := oD_weak hDb (fun _ _ => trivial)
  have hx := B.exec
  have hb := B.bytes
  have hr := B.returns
  have hts := atoms_spec (ws := ws_ yJ2_init cJ2_init 1 none) B.pre
  have hts : ∀ w ∈ lw_all, w.before _ s = true := fun w h => hts w (List.mem_cons_of_mem _ h)
  have hown : s.vm.findClass RJ2 = some m.cls := findClass_of_methodNamed B.named
  have hlocks := B.notSynchronized
  have hin : meth.name = "<init>" := (name_of_methodNamed B.named B.method).1
  subst hsz
  obtain ⟨A, hAe⟩ : ∃ A, A = va_A ([(a, .inr (9, [.int 0, .null, .int 0]))]) s.heap.size := ⟨_, rfl⟩
  have hD : va_D A ([(a, .inr (9, [.int 0, .null, .int 0]))]) := by rw [hAe]; exact hD0.self
  have hA : ∀ q : Nat, s.heap.size ≤ q → A q := fun q h => by rw [hAe]; exact Or.inr h
  have hAZ : ∀ q : Nat, A q → Z.1 ≤ q := fun q h => oA_base hDb hB q (by rw [hAe] at h; exact h)
  have hl := lv_entry ([.ref a]) (n := 1) (Nat.le_of_ble_eq_true rfl)
  rw [lg_entry_eq]
  generalize (lg_sl ([.ref a]) ++ List.replicate (1 - (lg_sl ([.ref a])).length) Slot.unset).toArray = ls at hl ⊢
  replace hl : lv_has ls 1 [(0, .ref a)] := hl
  have hP0 : va_P G.1 cl0 ([(a, .inr (9, [.int 0, .null, .int 0]))]) s.heap := hP
  refine ol_start (A := A) (fun H locs hH hS => ?_)
  rw [← hH] at hP
  clear hH
  refine lv_aload_n hx hb dJ2_init_0 rfl (lv_at hl 0 rfl) ?_
  refine ol_cJ (Wr := []) (va_runI (As := []) (rest := []) ⟨hx, hb, hml, hown, hts⟩ (jm_J1init l G a H.size) (cwI 0 hts (lw_meth q109) rfl rfl rfl (hts _ q60) (hts _ q107) (hts _ q108) rfl (by decide +kernel) ⟨Nat.le_of_ble_eq_true rfl, Nat.le_of_ble_eq_true rfl⟩) (oPc.preS hE.1 ⟨rfl, (hP.sub [0] rfl), oD_weak (hD.sub [0] (by decide) rfl) (fun _ _ => trivial), trivial⟩) rfl rfl hl.1 rfl (lv_room (Nat.le_of_ble_eq_true rfl)) dJ2_init_1 ⟨Nat.le_of_ble_eq_true rfl, Nat.le_of_ble_eq_true rfl⟩) hP hD hS hA [0] [] rfl rfl (by decide) (by decide) (fun v_ W_ H locs hΦ hP hD hS => ?_)
  obtain ⟨rfl, rfl⟩ := hΦ
  replace hP : va_P G.1 cl0 ([(a, .inr (9, [.int 0, .null, .int 0]))]) H := hP
  replace hD : va_D A ([(a, .inr (9, [.int 0, .null, .int 0]))]) := hD
  refine lv_aload_n hx hb dJ2_init_4 rfl (lv_at hl 0 rfl) ?_
  refine ol_gets (G := G) (A := A) hx hb hB hAZ hE.2.2.1 hS hown (hts _ q114) (fun _ h9 => h9) dJ2_init_5 ?_
  refine va_put (D := G.1) (ci := 9) (v := .ref (Z.2.2 0)) (ty := .array (.object "java/lang/Object")) (C := RJ2) (T := TJ2) (N := 3) hx hb hts in_J2 tyJ2 tyJ2_ok nmJ2 hown hE.1.1 hP hD hS 0 rfl rfl 1 (by decide) (hts _ q116) (fun _ h9 => h9) rfl (by decide +kernel) rfl rfl (Nat.le_of_ble_eq_true rfl) dJ2_init_8 (fun H locs hP hD hS => ?_)
  replace hP : va_P G.1 cl0 ([(a, .inr (9, [.int 0, .ref (Z.2.2 0), .int 0]))]) H := hP
  replace hD : va_D A ([(a, .inr (9, [.int 0, .ref (Z.2.2 0), .int 0]))]) := hD
  subst hAe
  exact ol_vretE hx hb hr hlocks ⟨rfl, rfl⟩ hP hD hS dJ2_init_11
set_option maxHeartbeats 4000000 in
set_option maxRecDepth 100000 in
theorem cr_inRange (l : Launch) (G : oG) (v : Int32) (a : Int32) (b : Int32)  : Met l yX0_inRange (ws_ yX0_inRange cX0_inRange 3 (some .boolean)) ({ frames := 0, cells := 0, slots := 0, locals := 0 }) (oPc G [.int v, .int a, .int b] (fun _ => True)) (oR (some (.int (zB (inR v a b))))) 0 0 (fun _ => False) := by
  refine Met.ofW (cc := cX0_inRange) (maxL := 3) (ret := (some .boolean)) (by decide) rfl ?_
  intro p e s m args below meth c s₁ B hml hv
  obtain ⟨rfl, hP, hE⟩ := hv
  have hx := B.exec
  have hb := B.bytes
  have hr := B.returns
  have hts := atoms_spec (ws := ws_ yX0_inRange cX0_inRange 3 (some .boolean)) B.pre
  have hts : ∀ w ∈ lw_all, w.before _ s = true := fun w h => hts w (List.mem_cons_of_mem _ h)
  have hown : s.vm.findClass RX0 = some m.cls := findClass_of_methodNamed B.named
  have hlocks := B.notSynchronized
  have hl := lv_entry ([.int v, .int a, .int b]) (n := 3) (Nat.le_of_ble_eq_true rfl)
  rw [lg_entry_eq]
  generalize (lg_sl ([.int v, .int a, .int b]) ++ List.replicate (3 - (lg_sl ([.int v, .int a, .int b])).length) Slot.unset).toArray = ls at hl ⊢
  replace hl : lv_has ls 3 [(0, .int v), (1, .int a), (2, .int b)] := hl
  refine lv_iload_n hx hb dX0_inRange_0 rfl (lv_at hl 0 rfl) ?_
  refine lv_iload_n hx hb dX0_inRange_1 rfl (lv_at hl 1 rfl) ?_
  refine lv_icmp_lt (tgt := 14) hx hb dX0_inRange_2 (by decide) (fun c_2 => ?_) (fun c_2 => ?_)
  · refine lv_iconst (v := 0) hx hb dX0_inRange_14 (by decide) ?_
    exact ol_zretR hx hb hr hlocks rfl (by simp [inR, zB, c_2, Int32.not_le.mpr c_2]) dX0_inRange_15
  · refine lv_iload_n hx hb dX0_inRange_5 rfl (lv_at hl 0 rfl) ?_
    refine lv_iload_n hx hb dX0_inRange_6 rfl (lv_at hl 2 rfl) ?_
    refine lv_icmp_gt (tgt := 14) hx hb dX0_inRange_7 (by decide) (fun c_7 => ?_) (fun c_7 => ?_)
    · refine lv_iconst (v := 0) hx hb dX0_inRange_14 (by decide) ?_
      exact ol_zretR hx hb hr hlocks rfl (by simp [inR, zB, c_2, Int32.not_lt.mp c_2, c_7, Int32.not_le.mpr c_7]) dX0_inRange_15
    · refine lv_iconst (v := 1) hx hb dX0_inRange_10 (by decide) ?_
      refine lv_goto (tgt := 15) hx hb dX0_inRange_11 (by decide) ?_
      exact ol_zretR hx hb hr hlocks rfl (by simp [inR, zB, c_2, Int32.not_lt.mp c_2, c_7, Int32.not_lt.mp c_7]) dX0_inRange_15
set_option maxHeartbeats 4000000 in
set_option maxRecDepth 100000 in
theorem cr_isTypist (l : Launch) (G : oG) (q : Int32)  : Met l yX0_isTypist (ws_ yX0_isTypist cX0_isTypist 1 (some .boolean)) ({ frames := 1, cells := 0, slots := 0, locals := 22 }) (oPc G [.int q] (fun _ => True)) (oR (some (.int (zB (inR q 0 1))))) 0 0 (fun _ => False) := by
  refine Met.ofW (cc := cX0_isTypist) (maxL := 1) (ret := (some .boolean)) (by decide) rfl ?_
  intro p e s m args below meth c s₁ B hml hv
  obtain ⟨rfl, hP, hE⟩ := hv
  have hx := B.exec
  have hb := B.bytes
  have hr := B.returns
  have hts := atoms_spec (ws := ws_ yX0_isTypist cX0_isTypist 1 (some .boolean)) B.pre
  have hts : ∀ w ∈ lw_all, w.before _ s = true := fun w h => hts w (List.mem_cons_of_mem _ h)
  have hown : s.vm.findClass RX0 = some m.cls := findClass_of_methodNamed B.named
  have hlocks := B.notSynchronized
  have hl := lv_entry ([.int q]) (n := 1) (Nat.le_of_ble_eq_true rfl)
  rw [lg_entry_eq]
  generalize (lg_sl ([.int q]) ++ List.replicate (1 - (lg_sl ([.int q])).length) Slot.unset).toArray = ls at hl ⊢
  replace hl : lv_has ls 1 [(0, .int q)] := hl
  refine lv_iload_n hx hb dX0_isTypist_0 rfl (lv_at hl 0 rfl) ?_
  refine lv_iconst (v := 0) hx hb dX0_isTypist_1 (by decide) ?_
  refine lv_iconst (v := 1) hx hb dX0_isTypist_2 (by decide) ?_
  refine ol_cR (st1 := [.int (zB (inR q 0 1))]) (va_runS (As := [.int q, .int 0, .int 1]) (rest := []) ⟨hx, hb, hml, hown, hts⟩ (cr_inRange l G q 0 1 ) (va_cwS 3 hts (lw_S q409 q410 q57 q411) rfl rfl rfl (by decide +kernel) ⟨Nat.le_of_ble_eq_true rfl, Nat.le_of_ble_eq_true rfl⟩) (oPc.preS hE trivial) rfl rfl hl.1 rfl (lv_room (Nat.le_of_ble_eq_true rfl)) dX0_isTypist_3 ⟨Nat.le_of_ble_eq_true rfl, Nat.le_of_ble_eq_true rfl⟩) rfl ?_
  exact ol_zretR hx hb hr hlocks rfl rfl dX0_isTypist_6
set_option maxHeartbeats 4000000 in
set_option maxRecDepth 100000 in
theorem cr_isLetter (l : Launch) (G : oG) (z : Int32)  : Met l yX0_isLetter (ws_ yX0_isLetter cX0_isLetter 1 (some .boolean)) ({ frames := 0, cells := 0, slots := 0, locals := 0 }) (oPc G [.int z] (fun _ => True)) (oR (some (.int (zB (inR z 97 122))))) 0 0 (fun _ => False) := by
  refine Met.ofW (cc := cX0_isLetter) (maxL := 1) (ret := (some .boolean)) (by decide) rfl ?_
  intro p e s m args below meth c s₁ B hml hv
  obtain ⟨rfl, hP, hE⟩ := hv
  have hx := B.exec
  have hb := B.bytes
  have hr := B.returns
  have hts := atoms_spec (ws := ws_ yX0_isLetter cX0_isLetter 1 (some .boolean)) B.pre
  have hts : ∀ w ∈ lw_all, w.before _ s = true := fun w h => hts w (List.mem_cons_of_mem _ h)
  have hown : s.vm.findClass RX0 = some m.cls := findClass_of_methodNamed B.named
  have hlocks := B.notSynchronized
  have hl := lv_entry ([.int z]) (n := 1) (Nat.le_of_ble_eq_true rfl)
  rw [lg_entry_eq]
  generalize (lg_sl ([.int z]) ++ List.replicate (1 - (lg_sl ([.int z])).length) Slot.unset).toArray = ls at hl ⊢
  replace hl : lv_has ls 1 [(0, .int z)] := hl
  refine lv_iload_n hx hb dX0_isLetter_0 rfl (lv_at hl 0 rfl) ?_
  refine lv_bipush (v := 97) hx hb dX0_isLetter_1 (by decide) ?_
  refine lv_icmp_lt (tgt := 16) hx hb dX0_isLetter_3 (by decide) (fun c_3 => ?_) (fun c_3 => ?_)
  · refine lv_iconst (v := 0) hx hb dX0_isLetter_16 (by decide) ?_
    exact ol_zretR hx hb hr hlocks rfl (by simp [inR, zB, c_3, Int32.not_le.mpr c_3]) dX0_isLetter_17
  · refine lv_iload_n hx hb dX0_isLetter_6 rfl (lv_at hl 0 rfl) ?_
    refine lv_bipush (v := 122) hx hb dX0_isLetter_7 (by decide) ?_
    refine lv_icmp_gt (tgt := 16) hx hb dX0_isLetter_9 (by decide) (fun c_9 => ?_) (fun c_9 => ?_)
    · refine lv_iconst (v := 0) hx hb dX0_isLetter_16 (by decide) ?_
      exact ol_zretR hx hb hr hlocks rfl (by simp [inR, zB, c_3, Int32.not_lt.mp c_3, c_9, Int32.not_le.mpr c_9]) dX0_isLetter_17
    · refine lv_iconst (v := 1) hx hb dX0_isLetter_12 (by decide) ?_
      refine lv_goto (tgt := 17) hx hb dX0_isLetter_13 (by decide) ?_
      exact ol_zretR hx hb hr hlocks rfl (by simp [inR, zB, c_3, Int32.not_lt.mp c_3, c_9, Int32.not_lt.mp c_9]) dX0_isLetter_17
set_option maxHeartbeats 4000000 in
set_option maxRecDepth 100000 in
theorem cr_size (l : Launch) (G : oG) (v : UInt32)  : Met l yX0_size (ws_ yX0_size cX0_size 1 (some .float)) ({ frames := 0, cells := 0, slots := 0, locals := 0 }) (oPc G [.float v] (fun _ => True)) (oR (some (.float (fsz v)))) 0 0 (fun _ => False) := by
  refine Met.ofW (cc := cX0_size) (maxL := 1) (ret := (some .float)) (by decide) rfl ?_
  intro p e s m args below meth c s₁ B hml hv
  obtain ⟨rfl, hP, hE⟩ := hv
  have hx := B.exec
  have hb := B.bytes
  have hr := B.returns
  have hts := atoms_spec (ws := ws_ yX0_size cX0_size 1 (some .float)) B.pre
  have hts : ∀ w ∈ lw_all, w.before _ s = true := fun w h => hts w (List.mem_cons_of_mem _ h)
  have hown : s.vm.findClass RX0 = some m.cls := findClass_of_methodNamed B.named
  have hlocks := B.notSynchronized
  have hl := lv_entry ([.float v]) (n := 1) (Nat.le_of_ble_eq_true rfl)
  rw [lg_entry_eq]
  generalize (lg_sl ([.float v]) ++ List.replicate (1 - (lg_sl ([.float v])).length) Slot.unset).toArray = ls at hl ⊢
  replace hl : lv_has ls 1 [(0, .float v)] := hl
  refine lv_fload_n hx hb dX0_size_0 rfl (lv_at hl 0 rfl) ?_
  refine lv_fconst0 hx hb dX0_size_1 ?_
  refine lv_fcmp hx hb dX0_size_2 ?_
  refine lv_if_ge (tgt := 11) hx hb dX0_size_3 (by decide) (fun c_3 => ?_) (fun c_3 => ?_)
  · refine lv_fload_n hx hb dX0_size_11 rfl (lv_at hl 0 rfl) ?_
    exact ol_fretR hx hb hr hlocks rfl (by simp [fsz, flt, zB, c_3, Int32.not_lt.mpr c_3]) dX0_size_12
  · refine lv_fload_n hx hb dX0_size_6 rfl (lv_at hl 0 rfl) ?_
    refine lv_fneg hx hb dX0_size_7 ?_
    refine lv_goto (tgt := 12) hx hb dX0_size_8 (by decide) ?_
    exact ol_fretR hx hb hr hlocks rfl (by simp [fsz, flt, zB, c_3, Int32.not_le.mp c_3]) dX0_size_12
set_option maxHeartbeats 4000000 in
set_option maxRecDepth 100000 in
theorem cr_mostOf (l : Launch) (G : oG) (x : Int32)  : Met l yX0_mostOf (ws_ yX0_mostOf cX0_mostOf 1 (some .float)) ({ frames := 0, cells := 0, slots := 0, locals := 0 }) (oPc G [.int x] (fun _ => True)) (oR (some (.float (mSeM x)))) 0 0 (fun _ => False) := by
  refine Met.ofW (cc := cX0_mostOf) (maxL := 1) (ret := (some .float)) (by decide) rfl ?_
  intro p e s m args below meth c s₁ B hml hv
  obtain ⟨rfl, hP, hE⟩ := hv
  have hx := B.exec
  have hb := B.bytes
  have hr := B.returns
  have hts := atoms_spec (ws := ws_ yX0_mostOf cX0_mostOf 1 (some .float)) B.pre
  have hts : ∀ w ∈ lw_all, w.before _ s = true := fun w h => hts w (List.mem_cons_of_mem _ h)
  have hown : s.vm.findClass RX0 = some m.cls := findClass_of_methodNamed B.named
  have hlocks := B.notSynchronized
  have hl := lv_entry ([.int x]) (n := 1) (Nat.le_of_ble_eq_true rfl)
  rw [lg_entry_eq]
  generalize (lg_sl ([.int x]) ++ List.replicate (1 - (lg_sl ([.int x])).length) Slot.unset).toArray = ls at hl ⊢
  replace hl : lv_has ls 1 [(0, .int x)] := hl
  refine lv_iload_n hx hb dX0_mostOf_0 rfl (lv_at hl 0 rfl) ?_
  refine lv_if_ne (tgt := 8) hx hb dX0_mostOf_1 (by decide) (fun c_1 => ?_) (fun c_1 => ?_)
  · refine lv_iload_n hx hb dX0_mostOf_8 rfl (lv_at hl 0 rfl) ?_
    refine lv_iconst (v := 1) hx hb dX0_mostOf_9 (by decide) ?_
    refine lv_icmp_ne (tgt := 18) hx hb dX0_mostOf_10 (by decide) (fun c_10 => ?_) (fun c_10 => ?_)
    · refine lv_fconst1 hx hb dX0_mostOf_18 ?_
      exact ol_fretR hx hb hr hlocks rfl (by simp [mSeM, zB, c_1, c_10]) dX0_mostOf_19
    · refine lv_ldcf hx hb hown (hts _ q552) dX0_mostOf_13 ?_
      refine lv_goto (tgt := 19) hx hb dX0_mostOf_15 (by decide) ?_
      exact ol_fretR hx hb hr hlocks rfl (by simp [mSeM, zB, c_1, c_10]) dX0_mostOf_19
  · refine lv_fconst2 hx hb dX0_mostOf_4 ?_
    refine lv_goto (tgt := 19) hx hb dX0_mostOf_5 (by decide) ?_
    exact ol_fretR hx hb hr hlocks rfl (by simp [mSeM, zB, c_1]) dX0_mostOf_19
set_option maxHeartbeats 4000000 in
set_option maxRecDepth 100000 in
theorem cr_isDown (l : Launch) (G : oG) (a : Nat) (sg sf ho si db sh tr : Int32)  : Met l yX4_isDown (ws_ yX4_isDown cX4_isDown 1 (some .boolean)) ({ frames := 0, cells := 0, slots := 0, locals := 0 }) (oPc G [.ref a] (fun H => va_P G.1 cl0 ([(a, .inr (4, [.int sg, .int sf, .int ho, .int si, .int db, .int sh, .int tr]))]) H)) (oR (some (.int (zB (!decide (ho = -5)))))) 0 0 (fun _ => False) := by
  refine Met.ofW (cc := cX4_isDown) (maxL := 1) (ret := (some .boolean)) (by decide) rfl ?_
  intro p e s m args below meth c s₁ B hml hv
  obtain ⟨rfl, hP, hE⟩ := hv
  have hx := B.exec
  have hb := B.bytes
  have hr := B.returns
  have hts := atoms_spec (ws := ws_ yX4_isDown cX4_isDown 1 (some .boolean)) B.pre
  have hts : ∀ w ∈ lw_all, w.before _ s = true := fun w h => hts w (List.mem_cons_of_mem _ h)
  have hown : s.vm.findClass RX4 = some m.cls := findClass_of_methodNamed B.named
  have hlocks := B.notSynchronized
  have hl := lv_entry ([.ref a]) (n := 1) (Nat.le_of_ble_eq_true rfl)
  rw [lg_entry_eq]
  generalize (lg_sl ([.ref a]) ++ List.replicate (1 - (lg_sl ([.ref a])).length) Slot.unset).toArray = ls at hl ⊢
  replace hl : lv_has ls 1 [(0, .ref a)] := hl
  refine lv_aload_n hx hb dX4_isDown_0 rfl (lv_at hl 0 rfl) ?_
  refine va_get (D := G.1) (ci := 4) (v := .int ho) (C := RX4) (T := TX4) (N := 7) hx hb hts in_X4 hown hE.1 hP 0 rfl rfl 2 (by decide) (hts _ q364) (fun _ h9 => h9) rfl dX4_isDown_1 ?_
  refine lv_bipush (v := (-5)) hx hb dX4_isDown_4 (by decide) ?_
  refine lv_icmp_eq (tgt := 13) hx hb dX4_isDown_6 (by decide) (fun c_6 => ?_) (fun c_6 => ?_)
  · refine lv_iconst (v := 0) hx hb dX4_isDown_13 (by decide) ?_
    exact ol_zretR hx hb hr hlocks rfl (by simp [zB, c_6]) dX4_isDown_14
  · refine lv_iconst (v := 1) hx hb dX4_isDown_9 (by decide) ?_
    refine lv_goto (tgt := 14) hx hb dX4_isDown_10 (by decide) ?_
    exact ol_zretR hx hb hr hlocks rfl (by simp [zB, c_6]) dX4_isDown_14
set_option maxHeartbeats 4000000 in
set_option maxRecDepth 100000 in
theorem cr_isSeen (l : Launch) (G : oG) (a : Nat) (sg sf ho si db sh tr : Int32)  : Met l yX4_isSeen (ws_ yX4_isSeen cX4_isSeen 1 (some .boolean)) ({ frames := 0, cells := 0, slots := 0, locals := 0 }) (oPc G [.ref a] (fun H => va_P G.1 cl0 ([(a, .inr (4, [.int sg, .int sf, .int ho, .int si, .int db, .int sh, .int tr]))]) H)) (oR (some (.int (zB (!decide (si = -5)))))) 0 0 (fun _ => False) := by
  refine Met.ofW (cc := cX4_isSeen) (maxL := 1) (ret := (some .boolean)) (by decide) rfl ?_
  intro p e s m args below meth c s₁ B hml hv
  obtain ⟨rfl, hP, hE⟩ := hv
  have hx := B.exec
  have hb := B.bytes
  have hr := B.returns
  have hts := atoms_spec (ws := ws_ yX4_isSeen cX4_isSeen 1 (some .boolean)) B.pre
  have hts : ∀ w ∈ lw_all, w.before _ s = true := fun w h => hts w (List.mem_cons_of_mem _ h)
  have hown : s.vm.findClass RX4 = some m.cls := findClass_of_methodNamed B.named
  have hlocks := B.notSynchronized
  have hl := lv_entry ([.ref a]) (n := 1) (Nat.le_of_ble_eq_true rfl)
  rw [lg_entry_eq]
  generalize (lg_sl ([.ref a]) ++ List.replicate (1 - (lg_sl ([.ref a])).length) Slot.unset).toArray = ls at hl ⊢
  replace hl : lv_has ls 1 [(0, .ref a)] := hl
  refine lv_aload_n hx hb dX4_isSeen_0 rfl (lv_at hl 0 rfl) ?_
  refine va_get (D := G.1) (ci := 4) (v := .int si) (C := RX4) (T := TX4) (N := 7) hx hb hts in_X4 hown hE.1 hP 0 rfl rfl 3 (by decide) (hts _ q367) (fun _ h9 => h9) rfl dX4_isSeen_1 ?_
  refine lv_bipush (v := (-5)) hx hb dX4_isSeen_4 (by decide) ?_
  refine lv_icmp_eq (tgt := 13) hx hb dX4_isSeen_6 (by decide) (fun c_6 => ?_) (fun c_6 => ?_)
  · refine lv_iconst (v := 0) hx hb dX4_isSeen_13 (by decide) ?_
    exact ol_zretR hx hb hr hlocks rfl (by simp [zB, c_6]) dX4_isSeen_14
  · refine lv_iconst (v := 1) hx hb dX4_isSeen_9 (by decide) ?_
    refine lv_goto (tgt := 14) hx hb dX4_isSeen_10 (by decide) ?_
    exact ol_zretR hx hb hr hlocks rfl (by simp [zB, c_6]) dX4_isSeen_14
set_option maxHeartbeats 4000000 in
set_option maxRecDepth 100000 in
theorem cm_keyInit (l : Launch) (G : oG) (a : Nat)  (sz : Nat) : Met l yX4_init (ws_ yX4_init cX4_init 1 none) ({ frames := 1, cells := 0, slots := 0, locals := 12 }) (oPc G [.ref a] (oPE G ([(a, .inr (4, [.int 0, .int 0, .int 0, .int 0, .int 0, .int 0, .int 0]))]) sz (fun _ => True))) (oE G (fun v_ W_ => v_ = none ∧ W_ = [(a, .inr (4, [.int 46, .int (-5), .int (-5), .int (-5), .int 0, .int 0, .int (-5)]))]) ([(a, .inr (4, [.int 0, .int 0, .int 0, .int 0, .int 0, .int 0, .int 0]))]) sz) 0 0 (va_A ([(a, .inr (4, [.int 0, .int 0, .int 0, .int 0, .int 0, .int 0, .int 0]))]) sz) := by
  refine Met.ofW (cc := cX4_init) (maxL := 1) (ret := none) (by decide) rfl ?_
  intro p e s m args below meth c s₁ B hml hv
  obtain ⟨rfl, ⟨hsz, hP, hD0, hX⟩, hE⟩ := hv
  have hx := B.exec
  have hb := B.bytes
  have hr := B.returns
  have hts := atoms_spec (ws := ws_ yX4_init cX4_init 1 none) B.pre
  have hts : ∀ w ∈ lw_all, w.before _ s = true := fun w h => hts w (List.mem_cons_of_mem _ h)
  have hown : s.vm.findClass RX4 = some m.cls := findClass_of_methodNamed B.named
  have hlocks := B.notSynchronized
  have hin : meth.name = "<init>" := (name_of_methodNamed B.named B.method).1
  subst hsz
  obtain ⟨A, hAe⟩ : ∃ A, A = va_A ([(a, .inr (4, [.int 0, .int 0, .int 0, .int 0, .int 0, .int 0, .int 0]))]) s.heap.size := ⟨_, rfl⟩
  have hD : va_D A ([(a, .inr (4, [.int 0, .int 0, .int 0, .int 0, .int 0, .int 0, .int 0]))]) := by rw [hAe]; exact hD0.self
  have hA : ∀ q : Nat, s.heap.size ≤ q → A q := fun q h => by rw [hAe]; exact Or.inr h
  have hl := lv_entry ([.ref a]) (n := 1) (Nat.le_of_ble_eq_true rfl)
  rw [lg_entry_eq]
  generalize (lg_sl ([.ref a]) ++ List.replicate (1 - (lg_sl ([.ref a])).length) Slot.unset).toArray = ls at hl ⊢
  replace hl : lv_has ls 1 [(0, .ref a)] := hl
  have hP0 : va_P G.1 cl0 ([(a, .inr (4, [.int 0, .int 0, .int 0, .int 0, .int 0, .int 0, .int 0]))]) s.heap := hP
  refine ol_start (A := A) (fun H locs hH hS => ?_)
  rw [← hH] at hP
  clear hH
  refine lv_aload_n hx hb dX4_init_0 rfl (lv_at hl 0 rfl) ?_
  refine W.objInit hx hb hown (hts _ q357) (hts _ q94) (hts _ q95) rfl (by rw [hml]; exact hl.1) rfl dX4_init_1 (Nat.le_of_ble_eq_true rfl) (Nat.le_of_ble_eq_true rfl) ?_
  refine W.eq (g2 := F0 m 4 ls []) rfl ?_
  refine lv_aload_n hx hb dX4_init_4 rfl (lv_at hl 0 rfl) ?_
  refine lv_bipush (v := 46) hx hb dX4_init_5 (by decide) ?_
  refine va_put (D := G.1) (ci := 4) (v := .int 46) (ty := .char) (C := RX4) (T := TX4) (N := 7) hx hb hts in_X4 tyX4 tyX4_ok nmX4 hown hE.1 hP hD hS 0 rfl rfl 0 (by decide) (hts _ q358) (fun _ h9 => h9) rfl (by decide +kernel) rfl rfl (Nat.le_of_ble_eq_true rfl) dX4_init_7 (fun H locs hP hD hS => ?_)
  replace hP : va_P G.1 cl0 ([(a, .inr (4, [.int 46, .int 0, .int 0, .int 0, .int 0, .int 0, .int 0]))]) H := hP
  replace hD : va_D A ([(a, .inr (4, [.int 46, .int 0, .int 0, .int 0, .int 0, .int 0, .int 0]))]) := hD
  refine lv_aload_n hx hb dX4_init_10 rfl (lv_at hl 0 rfl) ?_
  refine lv_bipush (v := (-5)) hx hb dX4_init_11 (by decide) ?_
  refine va_put (D := G.1) (ci := 4) (v := .int (-5)) (ty := .int) (C := RX4) (T := TX4) (N := 7) hx hb hts in_X4 tyX4 tyX4_ok nmX4 hown hE.1 hP hD hS 0 rfl rfl 1 (by decide) (hts _ q361) (fun _ h9 => h9) rfl (by decide +kernel) rfl rfl (Nat.le_of_ble_eq_true rfl) dX4_init_13 (fun H locs hP hD hS => ?_)
  replace hP : va_P G.1 cl0 ([(a, .inr (4, [.int 46, .int (-5), .int 0, .int 0, .int 0, .int 0, .int 0]))]) H := hP
  replace hD : va_D A ([(a, .inr (4, [.int 46, .int (-5), .int 0, .int 0, .int 0, .int 0, .int 0]))]) := hD
  refine lv_aload_n hx hb dX4_init_16 rfl (lv_at hl 0 rfl) ?_
  refine lv_bipush (v := (-5)) hx hb dX4_init_17 (by decide) ?_
  refine va_put (D := G.1) (ci := 4) (v := .int (-5)) (ty := .int) (C := RX4) (T := TX4) (N := 7) hx hb hts in_X4 tyX4 tyX4_ok nmX4 hown hE.1 hP hD hS 0 rfl rfl 2 (by decide) (hts _ q364) (fun _ h9 => h9) rfl (by decide +kernel) rfl rfl (Nat.le_of_ble_eq_true rfl) dX4_init_19 (fun H locs hP hD hS => ?_)
  replace hP : va_P G.1 cl0 ([(a, .inr (4, [.int 46, .int (-5), .int (-5), .int 0, .int 0, .int 0, .int 0]))]) H := hP
  replace hD : va_D A ([(a, .inr (4, [.int 46, .int (-5), .int (-5), .int 0, .int 0, .int 0, .int 0]))]) := hD
  refine lv_aload_n hx hb dX4_init_22 rfl (lv_at hl 0 rfl) ?_
  refine lv_bipush (v := (-5)) hx hb dX4_init_23 (by decide) ?_
  refine va_put (D := G.1) (ci := 4) (v := .int (-5)) (ty := .int) (C := RX4) (T := TX4) (N := 7) hx hb hts in_X4 tyX4 tyX4_ok nmX4 hown hE.1 hP hD hS 0 rfl rfl 3 (by decide) (hts _ q367) (fun _ h9 => h9) rfl (by decide +kernel) rfl rfl (Nat.le_of_ble_eq_true rfl) dX4_init_25 (fun H locs hP hD hS => ?_)
  replace hP : va_P G.1 cl0 ([(a, .inr (4, [.int 46, .int (-5), .int (-5), .int (-5), .int 0, .int 0, .int 0]))]) H := hP
  replace hD : va_D A ([(a, .inr (4, [.int 46, .int (-5), .int (-5), .int (-5), .int 0, .int 0, .int 0]))]) := hD
  refine lv_aload_n hx hb dX4_init_28 rfl (lv_at hl 0 rfl) ?_
  refine lv_bipush (v := (-5)) hx hb dX4_init_29 (by decide) ?_
  refine va_put (D := G.1) (ci := 4) (v := .int (-5)) (ty := .int) (C := RX4) (T := TX4) (N := 7) hx hb hts in_X4 tyX4 tyX4_ok nmX4 hown hE.1 hP hD hS 0 rfl rfl 6 (by decide) (hts _ q375) (fun _ h9 => h9) rfl (by decide +kernel) rfl rfl (Nat.le_of_ble_eq_true rfl) dX4_init_31 (fun H locs hP hD hS => ?_)
  replace hP : va_P G.1 cl0 ([(a, .inr (4, [.int 46, .int (-5), .int (-5), .int (-5), .int 0, .int 0, .int (-5)]))]) H := hP
  replace hD : va_D A ([(a, .inr (4, [.int 46, .int (-5), .int (-5), .int (-5), .int 0, .int 0, .int (-5)]))]) := hD
  subst hAe
  exact ol_vretE hx hb hr hlocks ⟨rfl, rfl⟩ hP hD hS dX4_init_34
set_option maxHeartbeats 4000000 in
set_option maxRecDepth 100000 in
theorem cm_keyCopy (l : Launch) (G : oG) (a : Nat) (sg sf ho si db sh tr : Int32) (hsg : oCh sg) (hdb : oBl db) (sz : Nat) : Met l yX4_copy (ws_ yX4_copy cX4_copy 2 (some (.object "BlanketKeys$Key"))) ({ frames := 2, cells := 1, slots := 7, locals := 32 }) (oPc G [.ref a] (oPE G ([(a, .inr (4, [.int sg, .int sf, .int ho, .int si, .int db, .int sh, .int tr]))]) sz (fun _ => True))) (oE G (fun v_ W_ => ∃ q : Nat, v_ = some (.ref q) ∧ W_ = [(a, .inr (4, [.int sg, .int sf, .int ho, .int si, .int db, .int sh, .int tr])), (q, .inr (4, [.int sg, .int sf, .int ho, .int si, .int db, .int sh, .int tr]))]) ([(a, .inr (4, [.int sg, .int sf, .int ho, .int si, .int db, .int sh, .int tr]))]) sz) 1 7 (va_A ([(a, .inr (4, [.int sg, .int sf, .int ho, .int si, .int db, .int sh, .int tr]))]) sz) := by
  refine Met.ofW (cc := cX4_copy) (maxL := 2) (ret := (some (.object "BlanketKeys$Key"))) (by decide) rfl ?_
  intro p e s m args below meth c s₁ B hml hv
  obtain ⟨rfl, ⟨hsz, hP, hD0, hX⟩, hE⟩ := hv
  have hx := B.exec
  have hb := B.bytes
  have hr := B.returns
  have hts := atoms_spec (ws := ws_ yX4_copy cX4_copy 2 (some (.object "BlanketKeys$Key"))) B.pre
  have hts : ∀ w ∈ lw_all, w.before _ s = true := fun w h => hts w (List.mem_cons_of_mem _ h)
  have hown : s.vm.findClass RX4 = some m.cls := findClass_of_methodNamed B.named
  have hlocks := B.notSynchronized
  subst hsz
  obtain ⟨A, hAe⟩ : ∃ A, A = va_A ([(a, .inr (4, [.int sg, .int sf, .int ho, .int si, .int db, .int sh, .int tr]))]) s.heap.size := ⟨_, rfl⟩
  have hD : va_D A ([(a, .inr (4, [.int sg, .int sf, .int ho, .int si, .int db, .int sh, .int tr]))]) := by rw [hAe]; exact hD0.self
  have hA : ∀ q : Nat, s.heap.size ≤ q → A q := fun q h => by rw [hAe]; exact Or.inr h
  have hl := lv_entry ([.ref a]) (n := 2) (Nat.le_of_ble_eq_true rfl)
  rw [lg_entry_eq]
  generalize (lg_sl ([.ref a]) ++ List.replicate (2 - (lg_sl ([.ref a])).length) Slot.unset).toArray = ls at hl ⊢
  replace hl : lv_has ls 2 [(0, .ref a)] := hl
  have hP0 : va_P G.1 cl0 ([(a, .inr (4, [.int sg, .int sf, .int ho, .int si, .int db, .int sh, .int tr]))]) s.heap := hP
  refine ol_start (A := A) (fun H locs hH hS => ?_)
  rw [← hH] at hP
  clear hH
  refine va_new (D := G.1) (cl := cl0) (ci := 4) (fs := [.int 0, .int 0, .int 0, .int 0, .int 0, .int 0, .int 0]) (C := RX4) (T := TX4) (N := 7) hx hb hts in_X4 tyX4 tyX4_ok hown (hts _ q463) (hts _ q353) (hts _ q72) hE.1 hP hD hS hA rfl (fun j hj => by rcases (show j = 0 ∨ j = 1 ∨ j = 2 ∨ j = 3 ∨ j = 4 ∨ j = 5 ∨ j = 6 by omega) with rfl | rfl | rfl | rfl | rfl | rfl | rfl <;> rfl) (Nat.le_of_ble_eq_true rfl) (Nat.le_of_ble_eq_true rfl) dX4_copy_0 (fun qn1 H hP hD hS => ?_)
  replace hP : va_P G.1 cl0 ([(a, .inr (4, [.int sg, .int sf, .int ho, .int si, .int db, .int sh, .int tr])), (qn1, .inr (4, [.int 0, .int 0, .int 0, .int 0, .int 0, .int 0, .int 0]))]) H := hP
  replace hD : va_D A ([(a, .inr (4, [.int sg, .int sf, .int ho, .int si, .int db, .int sh, .int tr])), (qn1, .inr (4, [.int 0, .int 0, .int 0, .int 0, .int 0, .int 0, .int 0]))]) := hD
  refine lv_dup hx hb dX4_copy_3 rfl ?_
  refine ol_cJ (Wr := [(a, .inr (4, [.int sg, .int sf, .int ho, .int si, .int db, .int sh, .int tr]))]) (va_runI (As := []) (rest := [.ref qn1]) ⟨hx, hb, hml, hown, hts⟩ (cm_keyInit l G qn1 H.size) (cwI 0 hts (lw_meth q356) rfl rfl rfl (hts _ q72) (hts _ q464) (hts _ q355) rfl (by decide +kernel) ⟨Nat.le_of_ble_eq_true rfl, Nat.le_of_ble_eq_true rfl⟩) (oPc.preS hE ⟨rfl, (hP.sub [1] rfl), oD_weak (hD.sub [1] (by decide) rfl) (fun _ _ => trivial), trivial⟩) rfl rfl hl.1 rfl (lv_room (Nat.le_of_ble_eq_true rfl)) dX4_copy_4 ⟨Nat.le_of_ble_eq_true rfl, Nat.le_of_ble_eq_true rfl⟩) hP hD hS hA [1] [0] rfl rfl (by decide) (by decide) (fun v_ W_ H locs hΦ hP hD hS => ?_)
  obtain ⟨rfl, rfl⟩ := hΦ
  replace hP : va_P G.1 cl0 ([(a, .inr (4, [.int sg, .int sf, .int ho, .int si, .int db, .int sh, .int tr])), (qn1, .inr (4, [.int 46, .int (-5), .int (-5), .int (-5), .int 0, .int 0, .int (-5)]))]) H := hP
  replace hD : va_D A ([(a, .inr (4, [.int sg, .int sf, .int ho, .int si, .int db, .int sh, .int tr])), (qn1, .inr (4, [.int 46, .int (-5), .int (-5), .int (-5), .int 0, .int 0, .int (-5)]))]) := hD
  refine lv_astore_n (lv' := [(1, .ref qn1), (0, .ref a)]) hx hb dX4_copy_7 rfl hl (by decide) rfl (fun ls hl => ?_)
  refine lv_aload_n hx hb dX4_copy_8 rfl (lv_at hl 0 rfl) ?_
  refine lv_aload_n hx hb dX4_copy_9 rfl (lv_at hl 1 rfl) ?_
  refine va_get (D := G.1) (ci := 4) (v := .int sg) (C := RX4) (T := TX4) (N := 7) hx hb hts in_X4 hown hE.1 hP 0 rfl rfl 0 (by decide) (hts _ q358) (fun _ h9 => h9) rfl dX4_copy_10 ?_
  refine va_put (D := G.1) (ci := 4) (v := .int sg) (ty := .char) (C := RX4) (T := TX4) (N := 7) hx hb hts in_X4 tyX4 tyX4_ok nmX4 hown hE.1 hP hD hS 1 rfl rfl 0 (by decide) (hts _ q358) (fun _ h9 => h9) rfl (by decide +kernel) hsg.1 hsg.2 (Nat.le_of_ble_eq_true rfl) dX4_copy_13 (fun H locs hP hD hS => ?_)
  replace hP : va_P G.1 cl0 ([(a, .inr (4, [.int sg, .int sf, .int ho, .int si, .int db, .int sh, .int tr])), (qn1, .inr (4, [.int sg, .int (-5), .int (-5), .int (-5), .int 0, .int 0, .int (-5)]))]) H := hP
  replace hD : va_D A ([(a, .inr (4, [.int sg, .int sf, .int ho, .int si, .int db, .int sh, .int tr])), (qn1, .inr (4, [.int sg, .int (-5), .int (-5), .int (-5), .int 0, .int 0, .int (-5)]))]) := hD
  refine lv_aload_n hx hb dX4_copy_16 rfl (lv_at hl 0 rfl) ?_
  refine lv_aload_n hx hb dX4_copy_17 rfl (lv_at hl 1 rfl) ?_
  refine va_get (D := G.1) (ci := 4) (v := .int sf) (C := RX4) (T := TX4) (N := 7) hx hb hts in_X4 hown hE.1 hP 0 rfl rfl 1 (by decide) (hts _ q361) (fun _ h9 => h9) rfl dX4_copy_18 ?_
  refine va_put (D := G.1) (ci := 4) (v := .int sf) (ty := .int) (C := RX4) (T := TX4) (N := 7) hx hb hts in_X4 tyX4 tyX4_ok nmX4 hown hE.1 hP hD hS 1 rfl rfl 1 (by decide) (hts _ q361) (fun _ h9 => h9) rfl (by decide +kernel) rfl rfl (Nat.le_of_ble_eq_true rfl) dX4_copy_21 (fun H locs hP hD hS => ?_)
  replace hP : va_P G.1 cl0 ([(a, .inr (4, [.int sg, .int sf, .int ho, .int si, .int db, .int sh, .int tr])), (qn1, .inr (4, [.int sg, .int sf, .int (-5), .int (-5), .int 0, .int 0, .int (-5)]))]) H := hP
  replace hD : va_D A ([(a, .inr (4, [.int sg, .int sf, .int ho, .int si, .int db, .int sh, .int tr])), (qn1, .inr (4, [.int sg, .int sf, .int (-5), .int (-5), .int 0, .int 0, .int (-5)]))]) := hD
  refine lv_aload_n hx hb dX4_copy_24 rfl (lv_at hl 0 rfl) ?_
  refine lv_aload_n hx hb dX4_copy_25 rfl (lv_at hl 1 rfl) ?_
  refine va_get (D := G.1) (ci := 4) (v := .int ho) (C := RX4) (T := TX4) (N := 7) hx hb hts in_X4 hown hE.1 hP 0 rfl rfl 2 (by decide) (hts _ q364) (fun _ h9 => h9) rfl dX4_copy_26 ?_
  refine va_put (D := G.1) (ci := 4) (v := .int ho) (ty := .int) (C := RX4) (T := TX4) (N := 7) hx hb hts in_X4 tyX4 tyX4_ok nmX4 hown hE.1 hP hD hS 1 rfl rfl 2 (by decide) (hts _ q364) (fun _ h9 => h9) rfl (by decide +kernel) rfl rfl (Nat.le_of_ble_eq_true rfl) dX4_copy_29 (fun H locs hP hD hS => ?_)
  replace hP : va_P G.1 cl0 ([(a, .inr (4, [.int sg, .int sf, .int ho, .int si, .int db, .int sh, .int tr])), (qn1, .inr (4, [.int sg, .int sf, .int ho, .int (-5), .int 0, .int 0, .int (-5)]))]) H := hP
  replace hD : va_D A ([(a, .inr (4, [.int sg, .int sf, .int ho, .int si, .int db, .int sh, .int tr])), (qn1, .inr (4, [.int sg, .int sf, .int ho, .int (-5), .int 0, .int 0, .int (-5)]))]) := hD
  refine lv_aload_n hx hb dX4_copy_32 rfl (lv_at hl 0 rfl) ?_
  refine lv_aload_n hx hb dX4_copy_33 rfl (lv_at hl 1 rfl) ?_
  refine va_get (D := G.1) (ci := 4) (v := .int si) (C := RX4) (T := TX4) (N := 7) hx hb hts in_X4 hown hE.1 hP 0 rfl rfl 3 (by decide) (hts _ q367) (fun _ h9 => h9) rfl dX4_copy_34 ?_
  refine va_put (D := G.1) (ci := 4) (v := .int si) (ty := .int) (C := RX4) (T := TX4) (N := 7) hx hb hts in_X4 tyX4 tyX4_ok nmX4 hown hE.1 hP hD hS 1 rfl rfl 3 (by decide) (hts _ q367) (fun _ h9 => h9) rfl (by decide +kernel) rfl rfl (Nat.le_of_ble_eq_true rfl) dX4_copy_37 (fun H locs hP hD hS => ?_)
  replace hP : va_P G.1 cl0 ([(a, .inr (4, [.int sg, .int sf, .int ho, .int si, .int db, .int sh, .int tr])), (qn1, .inr (4, [.int sg, .int sf, .int ho, .int si, .int 0, .int 0, .int (-5)]))]) H := hP
  replace hD : va_D A ([(a, .inr (4, [.int sg, .int sf, .int ho, .int si, .int db, .int sh, .int tr])), (qn1, .inr (4, [.int sg, .int sf, .int ho, .int si, .int 0, .int 0, .int (-5)]))]) := hD
  refine lv_aload_n hx hb dX4_copy_40 rfl (lv_at hl 0 rfl) ?_
  refine lv_aload_n hx hb dX4_copy_41 rfl (lv_at hl 1 rfl) ?_
  refine va_get (D := G.1) (ci := 4) (v := .int db) (C := RX4) (T := TX4) (N := 7) hx hb hts in_X4 hown hE.1 hP 0 rfl rfl 4 (by decide) (hts _ q370) (fun _ h9 => h9) rfl dX4_copy_42 ?_
  refine va_put (D := G.1) (ci := 4) (v := .int db) (ty := .boolean) (C := RX4) (T := TX4) (N := 7) hx hb hts in_X4 tyX4 tyX4_ok nmX4 hown hE.1 hP hD hS 1 rfl rfl 4 (by decide) (hts _ q370) (fun _ h9 => h9) rfl (by decide +kernel) hdb.1 hdb.2 (Nat.le_of_ble_eq_true rfl) dX4_copy_45 (fun H locs hP hD hS => ?_)
  replace hP : va_P G.1 cl0 ([(a, .inr (4, [.int sg, .int sf, .int ho, .int si, .int db, .int sh, .int tr])), (qn1, .inr (4, [.int sg, .int sf, .int ho, .int si, .int db, .int 0, .int (-5)]))]) H := hP
  replace hD : va_D A ([(a, .inr (4, [.int sg, .int sf, .int ho, .int si, .int db, .int sh, .int tr])), (qn1, .inr (4, [.int sg, .int sf, .int ho, .int si, .int db, .int 0, .int (-5)]))]) := hD
  refine lv_aload_n hx hb dX4_copy_48 rfl (lv_at hl 0 rfl) ?_
  refine lv_aload_n hx hb dX4_copy_49 rfl (lv_at hl 1 rfl) ?_
  refine va_get (D := G.1) (ci := 4) (v := .int sh) (C := RX4) (T := TX4) (N := 7) hx hb hts in_X4 hown hE.1 hP 0 rfl rfl 5 (by decide) (hts _ q373) (fun _ h9 => h9) rfl dX4_copy_50 ?_
  refine va_put (D := G.1) (ci := 4) (v := .int sh) (ty := .int) (C := RX4) (T := TX4) (N := 7) hx hb hts in_X4 tyX4 tyX4_ok nmX4 hown hE.1 hP hD hS 1 rfl rfl 5 (by decide) (hts _ q373) (fun _ h9 => h9) rfl (by decide +kernel) rfl rfl (Nat.le_of_ble_eq_true rfl) dX4_copy_53 (fun H locs hP hD hS => ?_)
  replace hP : va_P G.1 cl0 ([(a, .inr (4, [.int sg, .int sf, .int ho, .int si, .int db, .int sh, .int tr])), (qn1, .inr (4, [.int sg, .int sf, .int ho, .int si, .int db, .int sh, .int (-5)]))]) H := hP
  replace hD : va_D A ([(a, .inr (4, [.int sg, .int sf, .int ho, .int si, .int db, .int sh, .int tr])), (qn1, .inr (4, [.int sg, .int sf, .int ho, .int si, .int db, .int sh, .int (-5)]))]) := hD
  refine lv_aload_n hx hb dX4_copy_56 rfl (lv_at hl 0 rfl) ?_
  refine lv_aload_n hx hb dX4_copy_57 rfl (lv_at hl 1 rfl) ?_
  refine va_get (D := G.1) (ci := 4) (v := .int tr) (C := RX4) (T := TX4) (N := 7) hx hb hts in_X4 hown hE.1 hP 0 rfl rfl 6 (by decide) (hts _ q375) (fun _ h9 => h9) rfl dX4_copy_58 ?_
  refine va_put (D := G.1) (ci := 4) (v := .int tr) (ty := .int) (C := RX4) (T := TX4) (N := 7) hx hb hts in_X4 tyX4 tyX4_ok nmX4 hown hE.1 hP hD hS 1 rfl rfl 6 (by decide) (hts _ q375) (fun _ h9 => h9) rfl (by decide +kernel) rfl rfl (Nat.le_of_ble_eq_true rfl) dX4_copy_61 (fun H locs hP hD hS => ?_)
  replace hP : va_P G.1 cl0 ([(a, .inr (4, [.int sg, .int sf, .int ho, .int si, .int db, .int sh, .int tr])), (qn1, .inr (4, [.int sg, .int sf, .int ho, .int si, .int db, .int sh, .int tr]))]) H := hP
  replace hD : va_D A ([(a, .inr (4, [.int sg, .int sf, .int ho, .int si, .int db, .int sh, .int tr])), (qn1, .inr (4, [.int sg, .int sf, .int ho, .int si, .int db, .int sh, .int tr]))]) := hD
  refine lv_aload_n hx hb dX4_copy_64 rfl (lv_at hl 0 rfl) ?_
  subst hAe
  exact ol_aretE hx hb hr (Or.inl ⟨_, rfl⟩) hlocks ⟨_, rfl, rfl⟩ hP hD hS dX4_copy_65
