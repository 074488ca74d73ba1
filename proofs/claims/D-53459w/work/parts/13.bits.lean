/-! BITS of naturals that are ints; loops; a whole world's call -/
theorem nb_s : ∀ n, n < 32 → ((nI n &&& 31).toBitVec.smod 32).toNat = n := by decide +kernel
theorem nb_bit {a r : Nat} (ha : a < 2 ^ 31) (hr : r < 32) : (nI a >>> (nI r &&& 31)) &&& 1 = zB (a.testBit r) := by
  rw [pk_shrN ha _ r (nb_s r hr), pk_andN (k := 1) (Nat.lt_of_le_of_lt (Nat.div_le_self _ _) (by omega)) (by decide)]
  rw [Nat.testBit_eq_decide_div_mod_eq]
  rcases Nat.mod_two_eq_zero_or_one (a / 2 ^ r) with h | h
  · simp [h, zB, nI]
  · simp [h, zB, nI]
theorem nb_shl {r : Nat} (hr : r < 32) : (1 : Int32) <<< (nI r &&& 31) = nI (2 ^ r) := by
  have := pk_shlN (n := 1) (nI r &&& 31) r (nb_s r hr) (by rw [Nat.one_mul]; exact Nat.pow_lt_pow_right (by decide) hr)
  rw [Nat.one_mul] at this
  exact this
theorem nb_or (a b : Nat) : nI a ||| nI b = nI (a ||| b) := by
  apply Int32.toBitVec_inj.mp
  unfold nI
  simp
section OL2
variable {p : Program} {l : Launch} {e : Env} {R : Room} {s : State} {m : MethodId} {args : Array Value} {below : List Frame} {meth : Method} {c : Code} {H : Heap} {locs : List Loc} {cells slots : Nat} {Q : State → Prop}
variable {pc : Nat} {ls : Array Slot} {rest st0 st1 : List Value} {a : Array Value} {A0 A1 : Nat → Prop} {H0 : Heap} {mc ms : Nat} {free : Addr → Prop}
theorem ol_start {A : Nat → Prop} {g : JFrame} (k : ∀ (H : Heap) (locs : List Loc), H = s.heap → va_S A s.heap H locs → W p l e R s m args below meth c H locs 0 0 Q g) : W p l e R s m args below meth c s.heap [] 0 0 Q g := k _ _ rfl va_S.rf
/-- a counting loop: P tells what holds at its head -/
theorem ol_for (P : Nat → Heap → List Loc → Array Slot → Prop) (lim i0 : Nat) (h : i0 ≤ lim) (h0 : P i0 H locs ls)
    (step : ∀ (i : Nat) (H : Heap) (locs : List Loc) (ls : Array Slot), i ≤ lim → P i H locs ls → (∀ (H1 : Heap) (locs1 : List Loc) (ls1 : Array Slot), i < lim → P (i + 1) H1 locs1 ls1 → W p l e R s m args below meth c H1 locs1 cells slots Q (F0 m pc ls1 st0)) → W p l e R s m args below meth c H locs cells slots Q (F0 m pc ls st0)) : W p l e R s m args below meth c H locs cells slots Q (F0 m pc ls st0) := by
  obtain ⟨d, hd⟩ : ∃ d, lim < i0 + d := ⟨lim + 1, by omega⟩
  induction d generalizing i0 H locs ls with
  | zero => omega
  | succ d ih => exact step i0 H locs ls h h0 (fun H1 locs1 ls1 hlt hP => ih (i0 + 1) (by omega) hP (by omega))
/-- the same, with cells made on the way -/
theorem ol_forC (P : Nat → Heap → List Loc → Array Slot → Prop) (cf sf : Nat → Nat) (lim i0 : Nat) (h : i0 ≤ lim) (h0 : P i0 H locs ls)
    (step : ∀ (i : Nat) (H : Heap) (locs : List Loc) (ls : Array Slot), i ≤ lim → P i H locs ls → (∀ (H1 : Heap) (locs1 : List Loc) (ls1 : Array Slot), i < lim → P (i + 1) H1 locs1 ls1 → W p l e R s m args below meth c H1 locs1 (cf (i + 1)) (sf (i + 1)) Q (F0 m pc ls1 st0)) → W p l e R s m args below meth c H locs (cf i) (sf i) Q (F0 m pc ls st0)) : W p l e R s m args below meth c H locs (cf i0) (sf i0) Q (F0 m pc ls st0) := by
  obtain ⟨d, hd⟩ : ∃ d, lim < i0 + d := ⟨lim + 1, by omega⟩
  induction d generalizing i0 H locs ls with
  | zero => omega
  | succ d ih => exact step i0 H locs ls h h0 (fun H1 locs1 ls1 hlt hP => ih (i0 + 1) (by omega) hP (by omega))
/-- a loop with a measure that falls -/
theorem ol_while {σ : Type} (P : σ → Heap → List Loc → Array Slot → Prop) (μ : σ → Nat) (x0 : σ) (h0 : P x0 H locs ls)
    (step : ∀ (x : σ) (H : Heap) (locs : List Loc) (ls : Array Slot), P x H locs ls → (∀ (y : σ) (H1 : Heap) (locs1 : List Loc) (ls1 : Array Slot), μ y < μ x → P y H1 locs1 ls1 → W p l e R s m args below meth c H1 locs1 cells slots Q (F0 m pc ls1 st0)) → W p l e R s m args below meth c H locs cells slots Q (F0 m pc ls st0)) : W p l e R s m args below meth c H locs cells slots Q (F0 m pc ls st0) := by
  obtain ⟨d, hd⟩ : ∃ d, μ x0 < d := ⟨μ x0 + 1, by omega⟩
  induction d generalizing x0 H locs ls with
  | zero => omega
  | succ d ih => exact step x0 H locs ls h0 (fun y H1 locs1 ls1 hlt hP => ih y hP (by omega))
theorem ol_cM {G : oG} {v0 : Option Value} {W0 W1 : va_W} (hr : va_Run p l e R s m args below meth c H locs cells slots mc ms (F0 m pc ls st0) rest (oE G (fun v W => v = v0 ∧ W = W1) W0 H.size a) (va_A W0 H.size)) (hP : va_P G.1 cl0 W0 H) (hD : va_D A0 W0) (hS : va_S A0 H0 H locs) (hA : ∀ q, H0.size ≤ q → A0 q) (h1 : v0.toList ++ rest = st1)
    (kk : ∀ (H1 : Heap) (locs1 : List Loc), va_P G.1 cl0 W1 H1 → va_D A0 W1 → va_S A0 H0 H1 locs1 → W p l e R s m args below meth c H1 locs1 (cells + mc) (slots + ms) Q (F0 m (pc + 3) ls st1)) : W p l e R s m args below meth c H locs cells slots Q (F0 m pc ls st0) := by
  refine ol_cE (Wl := []) (Wr := []) hr (by simpa using hP) (by simpa using hD) hS hA (fun v W2 H1 locs1 hΦ hP1 hD1 hS1 _ _ => ?_)
  obtain ⟨rfl, rfl⟩ := hΦ
  subst h1
  exact kk H1 locs1 (by simpa using hP1) (by simpa using hD1) hS1
theorem ol_icmp_neB {cc : ByteArray} (hexec : p.tables.exec = Jvm.exec) (hb : c.code = cc) (b : Bool) {off : Int} {tgt : Nat} (hdg : decode cc pc = .ok (.if_icmp .ne off, 3)) (ht : (pc : Int) + off = (tgt : Int)) (kt : b = false → W p l e R s m args below meth c H locs cells slots Q (F0 m tgt ls rest)) (kf : b = true → W p l e R s m args below meth c H locs cells slots Q (F0 m (pc + 3) ls rest)) : W p l e R s m args below meth c H locs cells slots Q (F0 m pc ls (.int 1 :: .int (zB b) :: rest)) := lv_icmp_ne hexec hb hdg ht (fun h => kt (by cases b <;> simp_all [zB])) (fun h => kf (zB_1.mp h))
theorem ol_icmp_eqB {cc : ByteArray} (hexec : p.tables.exec = Jvm.exec) (hb : c.code = cc) (b : Bool) {off : Int} {tgt : Nat} (hdg : decode cc pc = .ok (.if_icmp .eq off, 3)) (ht : (pc : Int) + off = (tgt : Int)) (kt : b = true → W p l e R s m args below meth c H locs cells slots Q (F0 m tgt ls rest)) (kf : b = false → W p l e R s m args below meth c H locs cells slots Q (F0 m (pc + 3) ls rest)) : W p l e R s m args below meth c H locs cells slots Q (F0 m pc ls (.int 1 :: .int (zB b) :: rest)) := lv_icmp_eq hexec hb hdg ht (fun h => kt (zB_1.mp h)) (fun h => kf (by cases b <;> simp_all [zB]))
theorem ol_icmp_eqBB {cc : ByteArray} (hexec : p.tables.exec = Jvm.exec) (hb : c.code = cc) (b b2 : Bool) {off : Int} {tgt : Nat} (hdg : decode cc pc = .ok (.if_icmp .eq off, 3)) (ht : (pc : Int) + off = (tgt : Int)) (kt : b = b2 → W p l e R s m args below meth c H locs cells slots Q (F0 m tgt ls rest)) (kf : b ≠ b2 → W p l e R s m args below meth c H locs cells slots Q (F0 m (pc + 3) ls rest)) : W p l e R s m args below meth c H locs cells slots Q (F0 m pc ls (.int (zB b2) :: .int (zB b) :: rest)) := lv_icmp_eq hexec hb hdg ht (fun h => kt (by cases b <;> cases b2 <;> simp_all [zB])) (fun h => kf (by intro q; exact h (by rw [q])))
theorem ol_icmp_neBB {cc : ByteArray} (hexec : p.tables.exec = Jvm.exec) (hb : c.code = cc) (b b2 : Bool) {off : Int} {tgt : Nat} (hdg : decode cc pc = .ok (.if_icmp .ne off, 3)) (ht : (pc : Int) + off = (tgt : Int)) (kt : b ≠ b2 → W p l e R s m args below meth c H locs cells slots Q (F0 m tgt ls rest)) (kf : b = b2 → W p l e R s m args below meth c H locs cells slots Q (F0 m (pc + 3) ls rest)) : W p l e R s m args below meth c H locs cells slots Q (F0 m pc ls (.int (zB b2) :: .int (zB b) :: rest)) := lv_icmp_ne hexec hb hdg ht (fun h => kt (by intro q; exact h (by rw [q]))) (fun h => kf (by cases b <;> cases b2 <;> simp_all [zB]))
theorem zB_fit (b : Bool) : fits .boolean (.int (zB b)) = true := by cases b <;> rfl
end OL2
section OL3
variable {p : Program} {l : Launch} {e : Env} {R : Room} {s : State} {m : MethodId} {args : Array Value} {below : List Frame} {meth : Method} {c : Code} {H : Heap} {locs : List Loc} {cells slots : Nat} {Q : State → Prop}
variable {cc : ByteArray} {pc : Nat} {ls : Array Slot} {rest : List Value}
theorem ol_ior (hexec : p.tables.exec = Jvm.exec) (hb : c.code = cc) (a b : Nat) (hdg : decode cc pc = .ok (.ior, 1)) (k : W p l e R s m args below meth c H locs cells slots Q (F0 m (pc + 1) ls (.int (nI (a ||| b)) :: rest))) : W p l e R s m args below meth c H locs cells slots Q (F0 m pc ls (.int (nI b) :: .int (nI a) :: rest)) := lv_ior hexec hb hdg (by rw [nb_or]; exact k)
end OL3
theorem oD_ad {A : Nat → Prop} {w w' : va_W} (h : va_D A w) (e : w.map Prod.fst = w'.map Prod.fst) : va_D A w' := oD_addr e h
section OL4
variable {p : Program} {l : Launch} {e : Env} {R : Room} {s : State} {m : MethodId} {args : Array Value} {below : List Frame} {meth : Method} {c : Code} {H : Heap} {locs : List Loc} {cells slots : Nat} {Q : State → Prop}
variable {cc : ByteArray} {pc : Nat} {ls : Array Slot} {rest : List Value} {A : Nat → Prop} {ws : va_W} {H0 : Heap} {free : Addr → Prop}
theorem ol_newi {G : oG} (hexec : p.tables.exec = Jvm.exec) (hb : c.code = cc) (harr : (Cond.arrayClass .int).before args s = true) (hE : oE0 G s) (hP : va_P G.1 cl0 ws H) (hD : va_D A ws) (hS : va_S A H0 H locs) (hA : ∀ q, H0.size ≤ q → A q) (n : Nat) (hn : n ≤ 65536) (hcells : cells + 1 ≤ R.cells) (hslots : slots + n ≤ R.slots) (hdg : decode cc pc = .ok (.newarray .int, 2))
    (kk : ∀ (q : Nat) (H1 : Heap), va_P G.1 cl0 (ws ++ [(q, .inl (G.2 0, n, .inl (fun _ => 0)))]) H1 → va_D A (ws ++ [(q, .inl (G.2 0, n, .inl (fun _ => 0)))]) → va_S A H0 H1 locs → W p l e R s m args below meth c H1 locs (cells + 1) (slots + n) Q (F0 m (pc + 2) ls (.ref q :: rest))) : W p l e R s m args below meth c H locs cells slots Q (F0 m pc ls (.int (nI n) :: rest)) :=
  va_newa (atype := .int) hexec hb harr (ty := .int) rfl hE.1 hP hD hS hA (N' := n) (a0 := (n, .inl (fun _ => 0))) (fun cA => rfl) (nI_pos (by omega)) (nI_clamp (by omega)) (by show n * 4 ≤ _; omega) hcells hslots hdg (fun q cA H1 hK' hP' hD' hS' => by
    have e1 : s.vm.findClass ("[" ++ FieldType.int.toString) = some cA := (hK'.2 7 (cA, .int) rfl).2
    have e2 : s.vm.findClass ("[" ++ FieldType.int.toString) = some (G.2 0) := (hE.1.2 0 (G.2 0, .int) rfl).2
    obtain rfl := Option.some.inj (e1.symm.trans e2)
    exact kk q H1 hP' hD' hS')
theorem ol_newz {G : oG} (hexec : p.tables.exec = Jvm.exec) (hb : c.code = cc) (harr : (Cond.arrayClass .boolean).before args s = true) (hE : oE0 G s) (hP : va_P G.1 cl0 ws H) (hD : va_D A ws) (hS : va_S A H0 H locs) (hA : ∀ q, H0.size ≤ q → A q) (n : Nat) (hn : n ≤ 65536) (hcells : cells + 1 ≤ R.cells) (hslots : slots + n ≤ R.slots) (hdg : decode cc pc = .ok (.newarray .boolean, 2))
    (kk : ∀ (q : Nat) (H1 : Heap), va_P G.1 cl0 (ws ++ [(q, .inl (G.2 1, n, .inl (fun _ => 0)))]) H1 → va_D A (ws ++ [(q, .inl (G.2 1, n, .inl (fun _ => 0)))]) → va_S A H0 H1 locs → W p l e R s m args below meth c H1 locs (cells + 1) (slots + n) Q (F0 m (pc + 2) ls (.ref q :: rest))) : W p l e R s m args below meth c H locs cells slots Q (F0 m pc ls (.int (nI n) :: rest)) :=
  va_newa (atype := .boolean) hexec hb harr (ty := .boolean) rfl hE.1 hP hD hS hA (N' := n) (a0 := (n, .inl (fun _ => 0))) (fun cA => rfl) (nI_pos (by omega)) (nI_clamp (by omega)) (by show n * 1 ≤ _; omega) hcells hslots hdg (fun q cA H1 hK' hP' hD' hS' => by
    have e1 : s.vm.findClass ("[" ++ FieldType.boolean.toString) = some cA := (hK'.2 7 (cA, .boolean) rfl).2
    have e2 : s.vm.findClass ("[" ++ FieldType.boolean.toString) = some (G.2 1) := (hE.1.2 1 (G.2 1, .boolean) rfl).2
    obtain rfl := Option.some.inj (e1.symm.trans e2)
    exact kk q H1 hP' hD' hS')
theorem ol_newf {G : oG} (hexec : p.tables.exec = Jvm.exec) (hb : c.code = cc) (harr : (Cond.arrayClass .float).before args s = true) (hE : oE0 G s) (hP : va_P G.1 cl0 ws H) (hD : va_D A ws) (hS : va_S A H0 H locs) (hA : ∀ q, H0.size ≤ q → A q) (n : Nat) (hn : n ≤ 65536) (hcells : cells + 1 ≤ R.cells) (hslots : slots + n ≤ R.slots) (hdg : decode cc pc = .ok (.newarray .float, 2))
    (kk : ∀ (q : Nat) (H1 : Heap), va_P G.1 cl0 (ws ++ [(q, .inl (G.2 2, n, .inr (.inr (.inl (fun _ => 0)))))]) H1 → va_D A (ws ++ [(q, .inl (G.2 2, n, .inr (.inr (.inl (fun _ => 0)))))]) → va_S A H0 H1 locs → W p l e R s m args below meth c H1 locs (cells + 1) (slots + n) Q (F0 m (pc + 2) ls (.ref q :: rest))) : W p l e R s m args below meth c H locs cells slots Q (F0 m pc ls (.int (nI n) :: rest)) :=
  va_newa (atype := .float) hexec hb harr (ty := .float) rfl hE.1 hP hD hS hA (N' := n) (a0 := (n, .inr (.inr (.inl (fun _ => 0))))) (fun cA => rfl) (nI_pos (by omega)) (nI_clamp (by omega)) (by show n * 4 ≤ _; omega) hcells hslots hdg (fun q cA H1 hK' hP' hD' hS' => by
    have e1 : s.vm.findClass ("[" ++ FieldType.float.toString) = some cA := (hK'.2 7 (cA, .float) rfl).2
    have e2 : s.vm.findClass ("[" ++ FieldType.float.toString) = some (G.2 2) := (hE.1.2 2 (G.2 2, .float) rfl).2
    obtain rfl := Option.some.inj (e1.symm.trans e2)
    exact kk q H1 hP' hD' hS')
theorem ol_newb {G : oG} (hexec : p.tables.exec = Jvm.exec) (hb : c.code = cc) (harr : (Cond.arrayClass .byte).before args s = true) (hE : oE0 G s) (hP : va_P G.1 cl0 ws H) (hD : va_D A ws) (hS : va_S A H0 H locs) (hA : ∀ q, H0.size ≤ q → A q) (n : Nat) (hn : n ≤ 65536) (hcells : cells + 1 ≤ R.cells) (hslots : slots + n ≤ R.slots) (hdg : decode cc pc = .ok (.newarray .byte, 2))
    (kk : ∀ (q : Nat) (H1 : Heap), va_P G.1 cl0 (ws ++ [(q, .inl (G.2 3, n, .inl (fun _ => 0)))]) H1 → va_D A (ws ++ [(q, .inl (G.2 3, n, .inl (fun _ => 0)))]) → va_S A H0 H1 locs → W p l e R s m args below meth c H1 locs (cells + 1) (slots + n) Q (F0 m (pc + 2) ls (.ref q :: rest))) : W p l e R s m args below meth c H locs cells slots Q (F0 m pc ls (.int (nI n) :: rest)) :=
  va_newa (atype := .byte) hexec hb harr (ty := .byte) rfl hE.1 hP hD hS hA (N' := n) (a0 := (n, .inl (fun _ => 0))) (fun cA => rfl) (nI_pos (by omega)) (nI_clamp (by omega)) (by show n * 1 ≤ _; omega) hcells hslots hdg (fun q cA H1 hK' hP' hD' hS' => by
    have e1 : s.vm.findClass ("[" ++ FieldType.byte.toString) = some cA := (hK'.2 7 (cA, .byte) rfl).2
    have e2 : s.vm.findClass ("[" ++ FieldType.byte.toString) = some (G.2 3) := (hE.1.2 3 (G.2 3, .byte) rfl).2
    obtain rfl := Option.some.inj (e1.symm.trans e2)
    exact kk q H1 hP' hD' hS')
theorem ol_newc {G : oG} (hexec : p.tables.exec = Jvm.exec) (hb : c.code = cc) (harr : (Cond.arrayClass .char).before args s = true) (hE : oE0 G s) (hP : va_P G.1 cl0 ws H) (hD : va_D A ws) (hS : va_S A H0 H locs) (hA : ∀ q, H0.size ≤ q → A q) (n : Nat) (hn : n ≤ 65536) (hcells : cells + 1 ≤ R.cells) (hslots : slots + n ≤ R.slots) (hdg : decode cc pc = .ok (.newarray .char, 2))
    (kk : ∀ (q : Nat) (H1 : Heap), va_P G.1 cl0 (ws ++ [(q, .inl (G.2 4, n, .inl (fun _ => 0)))]) H1 → va_D A (ws ++ [(q, .inl (G.2 4, n, .inl (fun _ => 0)))]) → va_S A H0 H1 locs → W p l e R s m args below meth c H1 locs (cells + 1) (slots + n) Q (F0 m (pc + 2) ls (.ref q :: rest))) : W p l e R s m args below meth c H locs cells slots Q (F0 m pc ls (.int (nI n) :: rest)) :=
  va_newa (atype := .char) hexec hb harr (ty := .char) rfl hE.1 hP hD hS hA (N' := n) (a0 := (n, .inl (fun _ => 0))) (fun cA => rfl) (nI_pos (by omega)) (nI_clamp (by omega)) (by show n * 2 ≤ _; omega) hcells hslots hdg (fun q cA H1 hK' hP' hD' hS' => by
    have e1 : s.vm.findClass ("[" ++ FieldType.char.toString) = some cA := (hK'.2 7 (cA, .char) rfl).2
    have e2 : s.vm.findClass ("[" ++ FieldType.char.toString) = some (G.2 4) := (hE.1.2 4 (G.2 4, .char) rfl).2
    obtain rfl := Option.some.inj (e1.symm.trans e2)
    exact kk q H1 hP' hD' hS')
theorem ol_lretR {v r : Int64} (hx : p.tables.exec = Jvm.exec) (hb : c.code = cc) (hr : meth.sig.returnType = some .long) (hlocks : meth.locks = false) (hH : H = s.heap) (he : v = r) (hdg : decode cc pc = .ok (.lreturn, 1)) : W p l e R s m args below meth c H [] cells slots (MQ below (oR (some (.long r))) args s cells slots free) (F0 m pc ls [.long v]) :=
  W.lret (v := v) hx hb hr (fun t ht _ => ⟨by rw [he], by rw [ht, hH]⟩) (fun q h => by cases h) hdg hlocks
theorem ol_vretR (hx : p.tables.exec = Jvm.exec) (hb : c.code = cc) (hr : meth.sig.returnType = none) (hlocks : meth.locks = false) (hH : H = s.heap) (hdg : decode cc pc = .ok (.return_, 1)) : W p l e R s m args below meth c H [] cells slots (MQ below (oR none) args s cells slots free) (F0 m pc ls []) :=
  W.vret hx hb hr (fun t ht _ => ⟨rfl, by rw [ht, hH]⟩) (fun q h => by cases h) hdg hlocks
theorem ol_cretR {v r : Int32} (hx : p.tables.exec = Jvm.exec) (hb : c.code = cc) (hr : meth.sig.returnType = some .char) (hlocks : meth.locks = false) (hH : H = s.heap) (he : v = r) (hn : vp_nar .char r = r) (hdg : decode cc pc = .ok (.ireturn, 1)) : W p l e R s m args below meth c H [] cells slots (MQ below (oR (some (.int r))) args s cells slots free) (F0 m pc ls [.int v]) :=
  W.zret (v := v) hx hb hr (by rw [he]; show Value.int (vp_nar .char r) = _; rw [hn]) (fun t ht _ => ⟨by rw [he], by rw [ht, hH]⟩) (fun q h => by cases h) hdg hlocks
/-- ends, the frame's set by a name -/
theorem ol_iretA {G : oG} {Φ : Option Value → va_W → Prop} {W0 W1 : va_W} {v : Int32} (hx : p.tables.exec = Jvm.exec) (hb : c.code = cc) (hr : meth.sig.returnType = some .int) (hlocks : meth.locks = false) (hAe : A = va_A W0 s.heap.size) (he : Φ (some (.int v)) W1) (hP : va_P G.1 cl0 W1 H) (hD : va_D A W1) (hS : va_S A s.heap H locs) (hdg : decode cc pc = .ok (.ireturn, 1)) : W p l e R s m args below meth c H locs cells slots (MQ below (oE G Φ W0 s.heap.size) args s cells slots (va_A W0 s.heap.size)) (F0 m pc ls [.int v]) := by
  subst hAe; exact ol_iretE hx hb hr hlocks he hP hD hS hdg
theorem ol_zretA {G : oG} {Φ : Option Value → va_W → Prop} {W0 W1 : va_W} {v : Int32} {r : Bool} (hx : p.tables.exec = Jvm.exec) (hb : c.code = cc) (hr : meth.sig.returnType = some .boolean) (hlocks : meth.locks = false) (hAe : A = va_A W0 s.heap.size) (hv : v = zB r) (he : Φ (some (.int (zB r))) W1) (hP : va_P G.1 cl0 W1 H) (hD : va_D A W1) (hS : va_S A s.heap H locs) (hdg : decode cc pc = .ok (.ireturn, 1)) : W p l e R s m args below meth c H locs cells slots (MQ below (oE G Φ W0 s.heap.size) args s cells slots (va_A W0 s.heap.size)) (F0 m pc ls [.int v]) := by
  subst hAe; exact ol_zretE hx hb hr hlocks hv he hP hD hS hdg
theorem ol_vretA {G : oG} {Φ : Option Value → va_W → Prop} {W0 W1 : va_W} (hx : p.tables.exec = Jvm.exec) (hb : c.code = cc) (hr : meth.sig.returnType = none) (hlocks : meth.locks = false) (hAe : A = va_A W0 s.heap.size) (he : Φ none W1) (hP : va_P G.1 cl0 W1 H) (hD : va_D A W1) (hS : va_S A s.heap H locs) (hdg : decode cc pc = .ok (.return_, 1)) : W p l e R s m args below meth c H locs cells slots (MQ below (oE G Φ W0 s.heap.size) args s cells slots (va_A W0 s.heap.size)) (F0 m pc ls []) := by
  subst hAe; exact ol_vretE hx hb hr hlocks he hP hD hS hdg
theorem ol_aretA {G : oG} {Φ : Option Value → va_W → Prop} {W0 W1 : va_W} {x : Nat} {rt : FieldType} (hx : p.tables.exec = Jvm.exec) (hb : c.code = cc) (hr : meth.sig.returnType = some rt) (hrt : (∃ n, rt = .object n) ∨ ∃ t, rt = .array t) (hlocks : meth.locks = false) (hAe : A = va_A W0 s.heap.size) (he : Φ (some (.ref x)) W1) (hP : va_P G.1 cl0 W1 H) (hD : va_D A W1) (hS : va_S A s.heap H locs) (hdg : decode cc pc = .ok (.areturn, 1)) : W p l e R s m args below meth c H locs cells slots (MQ below (oE G Φ W0 s.heap.size) args s cells slots (va_A W0 s.heap.size)) (F0 m pc ls [.ref x]) := by
  subst hAe; exact ol_aretE hx hb hr hrt hlocks he hP hD hS hdg
end OL4
