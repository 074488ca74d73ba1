/-! THE COMPONENT's ENVIRONMENT: the start's heap below a base, cells that lists may hold, calls through interfaces, rows on references -/
/-- b0, the start's heap, addresses in it: 0 the empty array, 1 the mirror of Object[] -/
abbrev oZ : Type := Nat × Heap × (Nat → Nat)
abbrev oFl (n d : String) : String × MethodName × MethodName := ("java/util/ArrayList", ⟨"java/util/List", n, d⟩, ⟨"java/util/ArrayList", n, d⟩)
abbrev oFs (n d : String) : String × MethodName × MethodName := ("java/lang/StringBuilder", ⟨"java/lang/CharSequence", n, d⟩, ⟨"java/lang/StringBuilder", n, d⟩)
def oFw : List (String × MethodName × MethodName) := [oFl "add" "(Ljava/lang/Object;)Z", oFl "clear" "()V", oFl "size" "()I", oFl "get" "(I)Ljava/lang/Object;", oFl "remove" "(I)Ljava/lang/Object;", oFl "set" "(ILjava/lang/Object;)Ljava/lang/Object;", oFl "isEmpty" "()Z", oFs "length" "()I", oFs "charAt" "(I)C"]
theorem oFw_mh : ∀ f ∈ oFw, f.2.1.cls ≠ "java/lang/invoke/MethodHandle" ∧ f.2.1.cls ≠ "java/lang/invoke/VarHandle" := by decide +kernel
def oV (Z : oZ) (U : State) : Prop :=
  (∀ f ∈ oFw, va_Fw f.1 f.2.1 f.2.2 U) ∧
  va_Z "java/util/ArrayList" "DEFAULTCAPACITY_EMPTY_ELEMENTDATA" "[Ljava/lang/Object;" (.ref (Z.2.2 0)) (fun q => Z.1 ≤ q) U Z.2.1 ∧
  va_T (.object "java/lang/Object") (Z.2.2 0) 0 (fun _ => .null) (fun q => Z.1 ≤ q) U Z.2.1 ∧
  va_Mi "[Ljava/lang/Object;" (Z.2.2 1) U ∧ va_Dc U
theorem oV.moved {Z : oZ} {s U : State} (hvm : s.vm.Alike U.vm) (h : oV Z s) : oV Z U :=
  ⟨fun f hf => va_Fw.moved (oFw_mh f hf) hvm (h.1 f hf), va_Z.moved hvm h.2.1, va_T.moved hvm h.2.2.1, va_Mi.moved hvm h.2.2.2.1, va_Dc.moved hvm h.2.2.2.2⟩
def oE1 (G : oG) (Z : oZ) (U : State) : Prop := oE0 G U ∧ oV Z U
theorem oE1.warm {G : oG} {Z : oZ} {s U : State} (hW : s.WarmedH U.vm) (h : oE1 G Z s) : oE1 G Z U := ⟨h.1.warm hW, oV.moved hW.alike h.2⟩
theorem oE1.call {G : oG} {Z : oZ} {U : State} {g : JFrame} {mk : MethodId} {a : Array Value} (h : oE1 G Z U) : oE1 G Z (U.calling g mk a) := ⟨h.1.call, oV.moved (s := U) (U := U.calling g mk a) (Vm.Alike.refl U.vm) h.2⟩
def oPc1 (G : oG) (Z : oZ) (av : List Value) (P : Heap → Prop) : Array Value → State → Prop := va_Pc av (fun U => P U.heap ∧ oE1 G Z U)
theorem oPc1.blind {G : oG} {Z : oZ} {av : List Value} {P : Heap → Prop} : FrameBlind (oPc1 G Z av P) := fun a U g mk q => ⟨q.1, q.2.1, q.2.2.call⟩
theorem oPc1.preS {G : oG} {Z : oZ} {av : List Value} {P : Heap → Prop} {s : State} {H : Heap} (hE : oE1 G Z s) (hP : P H) : PreS s H (oPc1 G Z av P) av := ⟨oPc1.blind, fun U hU hW => ⟨rfl, by rw [hU]; exact hP, hE.warm hW⟩⟩
theorem oPc1.preV {G : oG} {Z : oZ} {b : Nat} {As : List Value} {P : Heap → Prop} {s : State} {H : Heap} {C : String} (hE : oE1 G Z s) (hr : ∃ cell : Cell, H[b]? = some cell ∧ cell.vm.isStatics = false ∧ s.vm.findClass C = some cell.cls) (hP : P H) : PreV s H C b (oPc1 G Z (.ref b :: As) P) As := ⟨oPc1.blind, hr, fun U hU hW => ⟨rfl, by rw [hU]; exact hP, hE.warm hW⟩⟩
/-- below the base the heap is the start's -/
def oB (Z : oZ) (H : Heap) : Prop := Z.1 = Z.2.1.size ∧ Z.1 ≤ H.size ∧ ∀ a : Nat, a < Z.1 → H[a]? = Z.2.1[a]?
theorem oB.z {Z : oZ} {H : Heap} (hB : oB Z H) {C n d : String} {v : Value} {U : State} (h : va_Z C n d v (fun q => Z.1 ≤ q) U Z.2.1) : va_Z C n d v (fun q => Z.1 ≤ q) U H := h.kept (fun a ha _ => hB.2.2 a (by rw [hB.1]; exact ha))
theorem oB.t {Z : oZ} {H : Heap} (hB : oB Z H) {ty : FieldType} {t N : Nat} {f : Nat → Value} {U : State} (h : va_T ty t N f (fun q => Z.1 ≤ q) U Z.2.1) : va_T ty t N f (fun q => Z.1 ≤ q) U H := h.kept (fun a ha _ => hB.2.2 a (by rw [hB.1]; exact ha))
theorem oB.keep {Z : oZ} {H H1 : Heap} {A : Nat → Prop} {locs : List Loc} (hB : oB Z H) (hS : va_S A H H1 locs) (hA : ∀ q, A q → Z.1 ≤ q) : oB Z H1 :=
  ⟨hB.1, Nat.le_trans hB.2.1 hS.1, fun a ha => by rw [hS.2.1 a (Nat.lt_of_lt_of_le ha hB.2.1) (fun h => absurd (hA a h) (by omega))]; exact hB.2.2 a ha⟩
/-- a mutator's start -/
def oPE1 (G : oG) (Z : oZ) (W0 : va_W) (sz : Nat) (X : Heap → Prop) : Heap → Prop := fun H => H.size = sz ∧ va_P G.1 cl0 W0 H ∧ va_D (fun q => Z.1 ≤ q) W0 ∧ oB Z H ∧ X H
theorem oA_base {Z : oZ} {W0 : va_W} {H : Heap} (hD : va_D (fun q => Z.1 ≤ q) W0) (hB : oB Z H) : ∀ q, va_A W0 H.size q → Z.1 ≤ q := by
  intro q h
  rcases oA_iff.mp h with h | h
  · obtain ⟨x, hx, rfl⟩ := List.mem_map.mp h
    exact (oD_iff.mp hD).2 x hx
  · exact Nat.le_trans hB.2.1 h
/-- a cell that a list may hold: an object of one of our classes -/
def oEl (G : oG) (H : Heap) (q : Nat) : Prop := ∃ (cell : Cell) (ci : Nat) (r : vw_C), H[q]? = some cell ∧ cell.vm.isStatics = false ∧ cl0[ci]? = some r ∧ cell.cls = G.1.1 ci
theorem oEl.of {G : oG} {H : Heap} {a ci : Nat} {fs : List Value} (h : va_at G.1 cl0 (a, .inr (ci, fs)) H) : oEl G H a := by
  obtain ⟨r, hr, cell, h1, h2, h3, -⟩ := h
  exact ⟨cell, ci, r, h1, by rw [h3]; rfl, hr, h2⟩
theorem oEl.kept {G : oG} {H H1 : Heap} {a : Nat} (h : oEl G H a) (e : H1[a]? = H[a]?) : oEl G H1 a := by
  obtain ⟨cell, ci, r, h1, h2⟩ := h
  exact ⟨cell, ci, r, by rw [e]; exact h1, h2⟩
theorem oEl_cast : ∀ (ci : Nat) (r : vw_C), cl0[ci]? = some r → Cond.castable r.1 "java/lang/Object" ∈ lw_tbl := by
  intro ci r h
  match ci, h with
  | 0, h => cases h; exact q1451
  | 1, h => cases h; exact q1452
  | 2, h => cases h; exact q1454
  | 3, h => cases h; exact q1450
  | 4, h => cases h; exact q1456
  | 5, h => cases h; exact q1458
  | 6, h => cases h; exact q1460
  | 7, h => cases h; exact q1462
  | 8, h => cases h; exact q1461
  | 9, h => cases h; exact q1453
  | 10, h => cases h; exact q1455
  | 11, h => cases h; exact q1459
  | 12, h => cases h; exact q1457
  | n + 13, h => cases h
theorem oEl.any {G : oG} {s : State} {H : Heap} {q : Nat} (hE : oE0 G s) (h : oEl G H q) : va_Any "java/lang/Object" s H q := by
  obtain ⟨cell, ci, r, h1, h2, hr, hc⟩ := h
  have hcls := (hE.1.1 ci r hr).2
  obtain ⟨kC, hkC, -⟩ := hcls.2
  obtain ⟨c0, t1, f1, f2, f3⟩ := Cond.castable_spec (va_Nw.use (A := #[]) rfl (hE.2.1 _ (oEl_cast ci r hr) rfl))
  cases hcls.1.symm.trans f1
  refine ⟨cell, h1, h2, ⟨kC, by rw [hc]; exact hkC⟩, fun comp hcomp => ?_⟩
  cases hcomp.symm.trans f2
  rw [hc]; exact f3
/-! calls through an interface -/
theorem lw_F {own : String} {idx : Nat} {C : String} {x y : MethodName} {b : ByteArray} {L : Nat} {r : Option FieldType} (h1 : Cond.methodLink own idx x ∈ lw_all) (h2 : Cond.selects C x y ∈ lw_all) (h3 : Cond.instanceMethod y ∈ lw_all) (h4 : Cond.initialized y.cls ∈ lw_all) (h5 : Cond.code y b L r ∈ lw_all) : GoodIn lw_all (va_wsF own idx C x y (ws_ y b L r)) := by
  refine lw_app ?_ (lw_meth h5)
  intro w hw
  simp only [List.mem_cons, List.not_mem_nil, or_false] at hw
  rcases hw with e | e | e | e
  · rw [e]; exact h1
  · rw [e]; exact h2
  · rw [e]; exact h3
  · rw [e]; exact h4
section OL6
variable {p : Program} {l : Launch} {e : Env} {R : Room} {s : State} {m : MethodId} {args : Array Value} {below : List Frame} {meth : Method} {c : Code} {H : Heap} {locs : List Loc} {cells slots : Nat} {Q : State → Prop}
variable {cc : ByteArray} {pc : Nat} {ls : Array Slot} {rest : List Value} {D : va_G} {cl : List vw_C} {A : Nat → Prop} {a : Nat} {tys : List (ClassId × FieldType)} {ws : va_W} {H0 : Heap}
theorem ol_aald (hexec : p.tables.exec = Jvm.exec) (hb : c.code = cc) (hK : va_K D cl tys s) (hP : va_P D cl ws H) (q0 t0 : Nat) {cA : ClassId} {C : String} {n : Nat} {f : Nat → Option Nat} (ha : ws[q0]? = some (a, .inl (cA, n, .inr (.inr (.inr (.inr f)))))) (ht : tys[t0]? = some (cA, .object C)) (i : Nat) (hi : i < n) (hn : n ≤ 65536) {v : Value} (hv : va_rf (f i) = v) (hdg : decode cc pc = .ok (.aaload, 1)) (kk : W p l e R s m args below meth c H locs cells slots Q (F0 m (pc + 1) ls (v :: rest))) : W p l e R s m args below meth c H locs cells slots Q (F0 m pc ls (.int (nI i) :: .ref a :: rest)) :=
  va_aldq hexec hb hK hP q0 t0 ha ht (vp_in_nI hi (by omega)) hdg (by rw [nI_clamp (by omega), hv]; exact kk)
theorem ol_aast (hexec : p.tables.exec = Jvm.exec) (hb : c.code = cc) (hK : va_K D cl tys s) (hP : va_P D cl ws H) (hD : va_D A ws) (hS : va_S A H0 H locs) (q0 t0 : Nat) {E : String} {cA : ClassId} {n v : Nat} {f : Nat → Option Nat} (ha : ws[q0]? = some (a, .inl (cA, n, .inr (.inr (.inr (.inr f)))))) (ht : tys[t0]? = some (cA, .object E)) (hr : va_Any E s H v) (i : Nat) (hi : i < n) (hn : n ≤ 65536) (hdg : decode cc pc = .ok (.aastore, 1))
    (kk : ∀ (H1 : Heap) (locs1 : List Loc), va_P D cl (ws.set q0 (a, .inl (cA, n, .inr (.inr (.inr (.inr (va_up f i (some v)))))))) H1 → va_D A (ws.set q0 (a, .inl (cA, n, .inr (.inr (.inr (.inr (va_up f i (some v)))))))) → va_S A H0 H1 locs1 → W p l e R s m args below meth c H1 locs1 cells slots Q (F0 m (pc + 1) ls rest)) : W p l e R s m args below meth c H locs cells slots Q (F0 m pc ls (.ref v :: .int (nI i) :: .ref a :: rest)) :=
  va_astqM hexec hb hK hP hD hS q0 t0 ha ht hr (vp_in_nI hi (by omega)) hdg (by rw [nI_clamp (by omega)]; exact kk)
theorem ol_aastN (hexec : p.tables.exec = Jvm.exec) (hb : c.code = cc) (hK : va_K D cl tys s) (hP : va_P D cl ws H) (hD : va_D A ws) (hS : va_S A H0 H locs) (q0 t0 : Nat) {C : String} {cA : ClassId} {n : Nat} {f : Nat → Option Nat} (ha : ws[q0]? = some (a, .inl (cA, n, .inr (.inr (.inr (.inr f)))))) (ht : tys[t0]? = some (cA, .object C)) (i : Nat) (hi : i < n) (hn : n ≤ 65536) (hdg : decode cc pc = .ok (.aastore, 1))
    (kk : ∀ (H1 : Heap) (locs1 : List Loc), va_P D cl (ws.set q0 (a, .inl (cA, n, .inr (.inr (.inr (.inr (va_up f i none))))))) H1 → va_D A (ws.set q0 (a, .inl (cA, n, .inr (.inr (.inr (.inr (va_up f i none))))))) → va_S A H0 H1 locs1 → W p l e R s m args below meth c H1 locs1 cells slots Q (F0 m (pc + 1) ls rest)) : W p l e R s m args below meth c H locs cells slots Q (F0 m pc ls (.null :: .int (nI i) :: .ref a :: rest)) :=
  va_astqN hexec hb hK hP hD hS q0 t0 ha ht (vp_in_nI hi (by omega)) hdg (by rw [nI_clamp (by omega)]; exact kk)
/-- a static of the start's heap is read -/
theorem ol_gets {Z : oZ} {G : oG} (hexec : p.tables.exec = Jvm.exec) (hb : c.code = cc) {C n d own ref : String} {v : Value} {index : Nat} (hB : oB Z s.heap) (hAZ : ∀ q, A q → Z.1 ≤ q) (hZ : va_Z C n d v (fun q => Z.1 ≤ q) s Z.2.1) (hS : va_S A s.heap H locs) (hown : s.vm.findClass own = some m.cls) (hlink : (Cond.fieldLink own index ref n d).before args s = true) (hsame : ∀ x, s.fieldFound? C n d = some x → s.fieldFound? ref n d = some x) (hdg : decode cc pc = .ok (.getstatic index, 3))
    (kk : W p l e R s m args below meth c H locs cells slots Q (F0 m (pc + 3) ls (v :: rest))) : W p l e R s m args below meth c H locs cells slots Q (F0 m pc ls rest) :=
  va_gets hexec hb ((hB.z hZ).narrow hAZ) hS hown hlink hsame hdg kk
end OL6
theorem vp_cell_cls (cA : ClassId) (a : vp_A) : (vp_cell cA a).cls = cA := by
  obtain ⟨n, f⟩ := a
  rcases f with f | f | f | f | f <;> rfl
/-- no object of ours is an Object[] -/
theorem oEl.noArr {G : oG} {s : State} {H : Heap} {q : Nat} {x : vp_A} (hE : oE0 G s) (h : oEl G H q) (ha : va_at G.1 cl0 (q, .inl (G.2 5, x)) H) : False := by
  obtain ⟨cell, ci, r, h1, -, hr, hc⟩ := h
  have e : cell = vp_cell (G.2 5) x := Option.some.inj (h1.symm.trans ha)
  obtain ⟨-, kC, hkC, hk⟩ := (hE.1.1 ci r hr).2
  obtain ⟨kA, comp, k1, k2, -⟩ := (hE.1.2 5 (G.2 5, .object "java/lang/Object") rfl).2
  rw [e, vp_cell_cls] at hc
  rw [hc] at k1
  cases hkC.symm.trans k1
  rw [hk] at k2
  cases k2
/-- elements stay elements -/
theorem oEl.keep {G : oG} {s : State} {H : Heap} {W0 W1 : va_W} {locs : List Loc} {q : Nat} (hE : oE0 G s) (hP0 : va_P G.1 cl0 W0 s.heap) (hP : va_P G.1 cl0 W1 H) (hS : va_S (va_A W0 s.heap.size) s.heap H locs)
    (hk : ∀ x ∈ W0, (∃ z, x.2 = .inl (G.2 5, z)) ∨ ∃ o, (x.1, Sum.inr o) ∈ W1) (h : oEl G s.heap q) : oEl G H q := by
  by_cases hA : va_A W0 s.heap.size q
  · rcases oA_iff.mp hA with hA | hA
    · obtain ⟨x, hx, rfl⟩ := List.mem_map.mp hA
      rcases hk x hx with ⟨z, hz⟩ | ⟨o, ho⟩
      · have hat := oP_mem hP0 hx
        have e : x = (x.1, .inl (G.2 5, z)) := by rw [← hz]
        rw [e] at hat
        exact (h.noArr hE hat).elim
      · exact oEl.of (oP_mem hP ho)
    · obtain ⟨cell, ci, r, h1, -⟩ := h
      exact absurd (Array.getElem?_eq_some_iff.mp h1).1 (by omega)
  · obtain ⟨cell, ci, r, h1, -⟩ := id h
    exact h.kept (hS.2.1 q (Array.getElem?_eq_some_iff.mp h1).1 hA)
section OL7
variable {p : Program} {l : Launch} {e : Env} {R : Room} {s : State} {m : MethodId} {args : Array Value} {below : List Frame} {meth : Method} {c : Code} {H : Heap} {locs : List Loc} {cells slots : Nat} {Q : State → Prop}
variable {cc : ByteArray} {pc : Nat} {ls : Array Slot} {rest : List Value} {A : Nat → Prop} {a : Nat} {ws : va_W} {H0 : Heap}
theorem ol_newo {G : oG} (hexec : p.tables.exec = Jvm.exec) (hb : c.code = cc) {own : String} {index : Nat} (hown : s.vm.findClass own = some m.cls) (hclink : (Cond.classLink own index "java/lang/Object").before args s = true) (hE : oE0 G s) (hP : va_P G.1 cl0 ws H) (hD : va_D A ws) (hS : va_S A H0 H locs) (hA : ∀ q, H0.size ≤ q → A q) (n : Nat) (hn : n ≤ 65536) (hcells : cells + 1 ≤ R.cells) (hslots : slots + n ≤ R.slots) (hdg : decode cc pc = .ok (.anewarray index, 3))
    (kk : ∀ (q : Nat) (H1 : Heap), va_P G.1 cl0 (ws ++ [(q, .inl (G.2 5, n, .inr (.inr (.inr (.inr (fun _ => none))))))]) H1 → va_D A (ws ++ [(q, .inl (G.2 5, n, .inr (.inr (.inr (.inr (fun _ => none))))))]) → va_S A H0 H1 locs → W p l e R s m args below meth c H1 locs (cells + 1) (slots + n) Q (F0 m (pc + 3) ls (.ref q :: rest))) : W p l e R s m args below meth c H locs cells slots Q (F0 m pc ls (.int (nI n) :: rest)) :=
  va_newq hexec hb hown hclink hE.2.2.1 hE.1 hP hD hS hA (nI_pos (by omega)) (nI_clamp (by omega)) (by omega) hcells hslots hdg (fun q cA H1 hK' hP' hD' hS' => by
    obtain ⟨_, _, _, _, _, e1⟩ := (hK'.2 7 (cA, .object "java/lang/Object") rfl).2
    obtain ⟨_, _, _, _, _, e2⟩ := (hE.1.2 5 (G.2 5, .object "java/lang/Object") rfl).2
    obtain rfl := Option.some.inj (e1.symm.trans e2)
    exact kk q H1 hP' hD' hS')
theorem ol_news {G : oG} (hexec : p.tables.exec = Jvm.exec) (hb : c.code = cc) {own : String} {index : Nat} (hown : s.vm.findClass own = some m.cls) (hclink : (Cond.classLink own index "BlanketKeys$Style").before args s = true) (hE : oE0 G s) (hP : va_P G.1 cl0 ws H) (hD : va_D A ws) (hS : va_S A H0 H locs) (hA : ∀ q, H0.size ≤ q → A q) (n : Nat) (hn : n ≤ 65536) (hcells : cells + 1 ≤ R.cells) (hslots : slots + n ≤ R.slots) (hdg : decode cc pc = .ok (.anewarray index, 3))
    (kk : ∀ (q : Nat) (H1 : Heap), va_P G.1 cl0 (ws ++ [(q, .inl (G.2 6, n, .inr (.inr (.inr (.inr (fun _ => none))))))]) H1 → va_D A (ws ++ [(q, .inl (G.2 6, n, .inr (.inr (.inr (.inr (fun _ => none))))))]) → va_S A H0 H1 locs → W p l e R s m args below meth c H1 locs (cells + 1) (slots + n) Q (F0 m (pc + 3) ls (.ref q :: rest))) : W p l e R s m args below meth c H locs cells slots Q (F0 m pc ls (.int (nI n) :: rest)) :=
  va_newq hexec hb hown hclink hE.2.2.2 hE.1 hP hD hS hA (nI_pos (by omega)) (nI_clamp (by omega)) (by omega) hcells hslots hdg (fun q cA H1 hK' hP' hD' hS' => by
    obtain ⟨_, _, _, _, _, e1⟩ := (hK'.2 7 (cA, .object "BlanketKeys$Style") rfl).2
    obtain ⟨_, _, _, _, _, e2⟩ := (hE.1.2 6 (G.2 6, .object "BlanketKeys$Style") rfl).2
    obtain rfl := Option.some.inj (e1.symm.trans e2)
    exact kk q H1 hP' hD' hS')
/-- System.arraycopy of references -/
theorem ol_copyo {G : oG} (hexec : p.tables.exec = Jvm.exec) (hb : c.code = cc) (hml : c.maxLocals = ls.size) {own : String} {index : Nat} (hown : s.vm.findClass own = some m.cls) (hlink : (Cond.methodLink own index arraycopyName).before args s = true) (hnat : (Cond.native arraycopyName).before args s = true) (hstat : (Cond.static arraycopyName).before args s = true) (hini : (Cond.initialized "java/lang/System").before args s = true)
    (hE : oE0 G s) (hP : va_P G.1 cl0 ws H) (hD : va_D A ws) (hS : va_S A H0 H locs) (q0 q1 : Nat) {a0 n0 n1 : Nat} {f g : Nat → Option Nat} (ha0 : ws[q0]? = some (a0, .inl (G.2 5, n0, .inr (.inr (.inr (.inr f)))))) (ha1 : ws[q1]? = some (a, .inl (G.2 5, n1, .inr (.inr (.inr (.inr g))))))
    (sp dp n : Nat) (h4 : sp + n ≤ n0) (h5 : dp + n ≤ n1) (hn : n0 ≤ 65536 ∧ n1 ≤ 65536) (hel : ∀ i : Nat, i < n → ∀ y : Nat, f (sp + i) = some y → oEl G H y)
    (hframes : 1 ≤ R.frames) (hlocals : (rest.map fun v => v.category).sum + 30 ≤ R.locals) (hdg : decode cc pc = .ok (.invokestatic index, 3))
    (kk : ∀ (H1 : Heap) (locs1 : List Loc), va_P G.1 cl0 (ws.set q1 (a, .inl (G.2 5, n1, .inr (.inr (.inr (.inr (va_cpy f g sp dp n))))))) H1 → va_D A (ws.set q1 (a, .inl (G.2 5, n1, .inr (.inr (.inr (.inr (va_cpy f g sp dp n))))))) → va_S A H0 H1 locs1 → W p l e R s m args below meth c H1 locs1 cells slots Q (F0 m (pc + 3) ls rest)) : W p l e R s m args below meth c H locs cells slots Q (F0 m pc ls (.int (nI n) :: .int (nI dp) :: .ref a :: .int (nI sp) :: .ref a0 :: rest)) := by
  have c1 : (nI sp).toNatClampNeg = sp := nI_clamp (by omega)
  have c2 : (nI dp).toNatClampNeg = dp := nI_clamp (by omega)
  have c3 : (nI n).toNatClampNeg = n := nI_clamp (by omega)
  have hw : nativeFrameWords "java/lang/System" "arraycopy" 5 ≤ 19 := by decide
  refine va_copyM hexec hb hml hown hlink hnat hstat hini hE.1 hP hD hS q0 q1 5 5 (E0 := "java/lang/Object") (E1 := "java/lang/Object") ha0 ha1 rfl rfl (nI_pos (by omega)) (nI_pos (by omega)) (nI_pos (by omega)) (by rw [c1, c3]; exact h4) (by rw [c2, c3]; exact h5) (fun i hi y hy => (hel i (by rw [c3] at hi; exact hi) y (by rw [c1] at hy; exact hy)).any hE) hframes (by omega) hdg ?_
  intro H1 locs1 hP1 hD1 hS1
  rw [c1, c2, c3] at hP1 hD1
  exact kk H1 locs1 hP1 hD1 hS1
end OL7
section OL8
variable {p : Program} {l : Launch} {e : Env} {R : Room} {s : State} {m : MethodId} {args : Array Value} {below : List Frame} {meth : Method} {c : Code} {H : Heap} {locs : List Loc} {cells slots : Nat} {Q : State → Prop}
variable {pc : Nat} {ls : Array Slot} {rest st0 : List Value} {a : Array Value} {A0 : Nat → Prop} {H0 : Heap} {mc ms : Nat}
/-- a mutator's call out of a world of listed cells: what it doesn't touch comes first behind it -/
theorem ol_cJ {G : oG} {Φ : Option Value → va_W → Prop} {ws W0 Wr : va_W} (hr : va_Run p l e R s m args below meth c H locs cells slots mc ms (F0 m pc ls st0) rest (oE G Φ W0 H.size a) (va_A W0 H.size)) (hP : va_P G.1 cl0 ws H) (hD : va_D A0 ws) (hS : va_S A0 H0 H locs) (hA : ∀ q, H0.size ≤ q → A0 q)
    (isC isR : List Nat) (hC : isC.map (fun i => ws[i]?) = W0.map some) (hR : isR.map (fun i => ws[i]?) = Wr.map some) (hn : va_nd isR = true) (hdis : ∀ i ∈ isR, i ∉ isC)
    (kk : ∀ (v : Option Value) (W1 : va_W) (H1 : Heap) (locs1 : List Loc), Φ v W1 → va_P G.1 cl0 (Wr ++ W1) H1 → va_D A0 (Wr ++ W1) → va_S A0 H0 H1 locs1 → W p l e R s m args below meth c H1 locs1 (cells + mc) (slots + ms) Q (F0 m (pc + 3) ls (v.toList ++ rest))) : W p l e R s m args below meth c H locs cells slots Q (F0 m pc ls st0) := by
  intro T hT X
  obtain ⟨v, st₀, t, T', L, h0, X', hL, e1, e2, ⟨⟨r, W1, hv, hp, hp1, hd1⟩, hz, hk⟩, st⟩ := hr T hT X
  cases hv
  rw [h0] at hz hk
  have hF := va_free hD hS hA isC hC
  have hk' : ∀ q : Nat, q < H.size → ¬ va_A W0 H.size q → T'.heap[q]? = H[q]? := fun q h1 h2 => by rw [e1]; exact hk q h1 h2
  obtain ⟨hP1, hD1⟩ := va_join hP hD isC isR hC hR hn hdis hk' hF (by rw [e1]; exact hp1) hd1
  obtain ⟨t2, a1, b1⟩ := kk v W1 T'.heap (locs ++ L) hp hP1 hD1
    ⟨Nat.le_trans hS.1 (by rw [e1]; exact hz), fun q h1 h2 => by rw [hk' q (Nat.lt_of_lt_of_le h1 hS.1) (fun z => h2 (hF q z))]; exact hS.2.1 q h1 h2, fun q hq => by
      rcases List.mem_append.mp hq with h | h
      · exact hS.2.2 q h
      · exact hF _ (hL q h)⟩ T' rfl X'
  exact ⟨t2, st t2 a1, b1⟩
theorem ol_cJ5 {G : oG} {Φ : Option Value → va_W → Prop} {ws W0 Wr : va_W} (hr : va_Run5 p l e R s m args below meth c H locs cells slots mc ms (F0 m pc ls st0) rest (oE G Φ W0 H.size a) (va_A W0 H.size)) (hP : va_P G.1 cl0 ws H) (hD : va_D A0 ws) (hS : va_S A0 H0 H locs) (hA : ∀ q, H0.size ≤ q → A0 q)
    (isC isR : List Nat) (hC : isC.map (fun i => ws[i]?) = W0.map some) (hR : isR.map (fun i => ws[i]?) = Wr.map some) (hn : va_nd isR = true) (hdis : ∀ i ∈ isR, i ∉ isC)
    (kk : ∀ (v : Option Value) (W1 : va_W) (H1 : Heap) (locs1 : List Loc), Φ v W1 → va_P G.1 cl0 (Wr ++ W1) H1 → va_D A0 (Wr ++ W1) → va_S A0 H0 H1 locs1 → W p l e R s m args below meth c H1 locs1 (cells + mc) (slots + ms) Q (F0 m (pc + 5) ls (v.toList ++ rest))) : W p l e R s m args below meth c H locs cells slots Q (F0 m pc ls st0) := by
  intro T hT X
  obtain ⟨v, st₀, t, T', L, h0, X', hL, e1, e2, ⟨⟨r, W1, hv, hp, hp1, hd1⟩, hz, hk⟩, st⟩ := hr T hT X
  cases hv
  rw [h0] at hz hk
  have hF := va_free hD hS hA isC hC
  have hk' : ∀ q : Nat, q < H.size → ¬ va_A W0 H.size q → T'.heap[q]? = H[q]? := fun q h1 h2 => by rw [e1]; exact hk q h1 h2
  obtain ⟨hP1, hD1⟩ := va_join hP hD isC isR hC hR hn hdis hk' hF (by rw [e1]; exact hp1) hd1
  obtain ⟨t2, a1, b1⟩ := kk v W1 T'.heap (locs ++ L) hp hP1 hD1
    ⟨Nat.le_trans hS.1 (by rw [e1]; exact hz), fun q h1 h2 => by rw [hk' q (Nat.lt_of_lt_of_le h1 hS.1) (fun z => h2 (hF q z))]; exact hS.2.1 q h1 h2, fun q hq => by
      rcases List.mem_append.mp hq with h | h
      · exact hS.2.2 q h
      · exact hF _ (hL q h)⟩ T' rfl X'
  exact ⟨t2, st t2 a1, b1⟩
end OL8
theorem ol_arrRecv {G : oG} {s : State} {H : Heap} {b : Nat} {x : vp_A} (hE : oE0 G s) (hat : va_at G.1 cl0 (b, .inl (G.2 5, x)) H) : ∃ cell : Cell, H[b]? = some cell ∧ cell.vm.isStatics = false ∧ s.vm.findClass "[Ljava/lang/Object;" = some cell.cls :=
  ⟨vp_cell (G.2 5) x, hat, by obtain ⟨n, f⟩ := x; rcases f with f | f | f | f | f <;> rfl, by rw [vp_cell_cls]; exact va_nmO (hE.1.2 5 (G.2 5, .object "java/lang/Object") rfl).2 (by decide)⟩
theorem nI_max {g p : Nat} (h : g ≤ p) (hp : p < 2 ^ 31) : (if nI g < nI p then nI p else nI g) = nI p := by
  split
  · rfl
  · rename_i hc
    have e1 := nI_toInt (n := g) (by omega)
    have e2 := nI_toInt hp
    rw [Int32.lt_iff_toInt_lt, e1, e2] at hc
    rw [show g = p by omega]
theorem nI_min {x y : Nat} (h : x ≤ y) (hp : y < 2 ^ 31) : (if nI y < nI x then nI y else nI x) = nI x := by
  split
  · rename_i hc
    have e1 := nI_toInt (n := x) (by omega)
    have e2 := nI_toInt hp
    rw [Int32.lt_iff_toInt_lt, e1, e2] at hc
    omega
  · rfl
/-- what was made is bounded by more -/
theorem ol_cnt {p : Program} {l : Launch} {e : Env} {R : Room} {s : State} {m : MethodId} {args : Array Value} {below : List Frame} {meth : Method} {c : Code} {H : Heap} {locs : List Loc} {cells slots cells' slots' : Nat} {Q : State → Prop} {g : JFrame} (h1 : cells ≤ cells') (h2 : slots ≤ slots') (k : W p l e R s m args below meth c H locs cells' slots' Q g) : W p l e R s m args below meth c H locs cells slots Q g :=
  fun T hT X => k T hT { X with same := X.same.mono h1 h2 }
