/-! OWN ROWS over the kit: ints that are naturals, readers, calls by whole blocks of a world -/
abbrev oG : Type := va_G × (Nat → ClassId)
abbrev cl0 : List vw_C := [(RX0, TX0, 4), (RX1, TX1, 16), (RX2, TX2, 2), (RX3, TX3, 3), (RX4, TX4, 7), (RX6, TX6, 6), (RX7, TX7, 2), (RX9, TX9, 3), (RX8, TX8, 7), (RJ2, TJ2, 3), (RJ7, TJ7, 4), (RJ13, TJ13, 1), (RX5, TX5, 15)]
abbrev tys0 (G : oG) : List (ClassId × FieldType) := [(G.2 0, .int), (G.2 1, .boolean), (G.2 2, .float), (G.2 3, .byte), (G.2 4, .char), (G.2 5, .object "java/lang/Object"), (G.2 6, .object "BlanketKeys$Style")]
/-- words of the tables that don't ride in the lists, but move along -/
def oN (w : Cond) : Bool := match w with
  | .fieldLinkNest _ _ _ _ _ _ => true
  | .methodLinkNest _ _ _ _ => true
  | .castable _ _ => true
  | .declares _ => true
  | _ => false
theorem oN_warm {w : Cond} (h : oN w = true) {s U : State} (hW : s.WarmedH U.vm) (hZ : va_Nw w s) : va_Nw w U := by
  cases w <;> first | (exact va_Nw.warmF hW hZ) | (exact va_Nw.warmM hW hZ) | (exact va_Nw.warmC hW hZ) | (exact va_Nw.warmD hW hZ) | (exact absurd h (by decide)) | cases h
/-- what every contract knows of the tables -/
def oE0 (G : oG) (U : State) : Prop := va_K G.1 cl0 (tys0 G) U ∧ (∀ w ∈ lw_tbl, oN w = true → va_Nw w U) ∧ va_AO "java/lang/Object" U ∧ va_AO "BlanketKeys$Style" U
theorem oE0.warm {G : oG} {s U : State} (hW : s.WarmedH U.vm) (h : oE0 G s) : oE0 G U :=
  ⟨va_K.moved hW.alike h.1, fun w hw hn => oN_warm hn hW (h.2.1 w hw hn), va_AO.moved hW.alike h.2.2.1, va_AO.moved hW.alike h.2.2.2⟩
theorem oE0.call {G : oG} {U : State} {g : JFrame} {mk : MethodId} {a : Array Value} (h : oE0 G U) : oE0 G (U.calling g mk a) :=
  ⟨va_K.moved (u := U) (U := U.calling g mk a) (Vm.Alike.refl U.vm) h.1, fun w hw hn => va_Nw.same (w := w) (by cases w <;> first | rfl | cases hn) (u := U) (U := U.calling g mk a) rfl (h.2.1 w hw hn), va_AO.moved (u := U) (U := U.calling g mk a) (Vm.Alike.refl U.vm) h.2.2.1, va_AO.moved (u := U) (U := U.calling g mk a) (Vm.Alike.refl U.vm) h.2.2.2⟩
/-- a contract's start -/
def oPc (G : oG) (av : List Value) (P : Heap → Prop) : Array Value → State → Prop := va_Pc av (fun U => P U.heap ∧ oE0 G U)
theorem oPc.blind {G : oG} {av : List Value} {P : Heap → Prop} : FrameBlind (oPc G av P) := fun a U g mk q => ⟨q.1, q.2.1, q.2.2.call⟩
theorem oPc.preS {G : oG} {av : List Value} {P : Heap → Prop} {s : State} {H : Heap} (hE : oE0 G s) (hP : P H) : PreS s H (oPc G av P) av := ⟨oPc.blind, fun U hU hW => ⟨rfl, by rw [hU]; exact hP, hE.warm hW⟩⟩
theorem oPc.preV {G : oG} {b : Nat} {As : List Value} {P : Heap → Prop} {s : State} {H : Heap} {C : String} (hE : oE0 G s) (hr : ∃ cell : Cell, H[b]? = some cell ∧ cell.vm.isStatics = false ∧ s.vm.findClass C = some cell.cls) (hP : P H) : PreV s H C b (oPc G (.ref b :: As) P) As := ⟨oPc.blind, hr, fun U hU hW => ⟨rfl, by rw [hU]; exact hP, hE.warm hW⟩⟩
theorem oE0.recv {G : oG} {s : State} {H : Heap} {a ci : Nat} {q : vw_C} {fs : List Value} (hE : oE0 G s) (hat : va_at G.1 cl0 (a, .inr (ci, fs)) H) (hc : cl0[ci]? = some q) : ∃ cell : Cell, H[a]? = some cell ∧ cell.vm.isStatics = false ∧ s.vm.findClass q.1 = some cell.cls :=
  va_recv (ws := [(a, .inr (ci, fs))]) (q0 := 0) hE.1 (fun k x hk => by
    have hz : k < 1 := (List.getElem?_eq_some_iff.mp hk).1
    rw [show k = 0 by omega] at hk
    cases hk
    exact hat) hc rfl
/-! worlds by membership -/
theorem oP_iff {D : va_G} {cl : List vw_C} {ws : va_W} {H : Heap} : va_P D cl ws H ↔ ∀ q ∈ ws, va_at D cl q H := by
  constructor
  · intro h q hq
    obtain ⟨k, hk⟩ := List.getElem?_of_mem hq
    exact h k q hk
  · intro h k q hk
    exact h q (List.mem_of_getElem? hk)
theorem oD_iff {A : Nat → Prop} {ws : va_W} : va_D A ws ↔ (ws.map Prod.fst).Nodup ∧ ∀ q ∈ ws, A q.1 := by
  constructor
  · intro h
    refine ⟨?_, fun q hq => ?_⟩
    · rw [List.Nodup, List.pairwise_iff_getElem]
      intro i j hi hj hij e
      rw [List.length_map] at hi hj
      have := h.1 i j ws[i] ws[j] (List.getElem?_eq_getElem hi) (List.getElem?_eq_getElem hj) (by simpa using e)
      omega
    · obtain ⟨k, hk⟩ := List.getElem?_of_mem hq
      exact h.2 k q hk
  · intro h
    refine ⟨fun i j p q hi hj e => ?_, fun k q hk => h.2 q (List.mem_of_getElem? hk)⟩
    have h1 := h.1
    rw [List.Nodup, List.pairwise_iff_getElem] at h1
    obtain ⟨hi', ei⟩ := List.getElem?_eq_some_iff.mp hi
    obtain ⟨hj', ej⟩ := List.getElem?_eq_some_iff.mp hj
    rcases Nat.lt_trichotomy i j with z | z | z
    · exact (h1 i j (by rw [List.length_map]; exact hi') (by rw [List.length_map]; exact hj') z (by simp [ei, ej, e])).elim
    · exact z
    · exact (h1 j i (by rw [List.length_map]; exact hj') (by rw [List.length_map]; exact hi') z (by simp [ei, ej, e])).elim
theorem oA_iff {ws : va_W} {sz q : Nat} : va_A ws sz q ↔ q ∈ ws.map Prod.fst ∨ sz ≤ q := by
  constructor
  · rintro (⟨k, e, h⟩ | h)
    · exact Or.inl (List.mem_map.mpr ⟨(q, e), List.mem_of_getElem? h, rfl⟩)
    · exact Or.inr h
  · rintro (h | h)
    · obtain ⟨x, hx, rfl⟩ := List.mem_map.mp h
      obtain ⟨k, hk⟩ := List.getElem?_of_mem hx
      exact Or.inl ⟨k, x.2, hk⟩
    · exact Or.inr h
theorem oP_app {D : va_G} {cl : List vw_C} {w1 w2 : va_W} {H : Heap} : va_P D cl (w1 ++ w2) H ↔ va_P D cl w1 H ∧ va_P D cl w2 H := by
  simp only [oP_iff, List.mem_append]
  exact ⟨fun h => ⟨fun q hq => h q (Or.inl hq), fun q hq => h q (Or.inr hq)⟩, fun h q hq => hq.elim (h.1 q) (h.2 q)⟩
theorem oP_cons {D : va_G} {cl : List vw_C} {x : Nat × va_E} {w : va_W} {H : Heap} : va_P D cl (x :: w) H ↔ va_at D cl x H ∧ va_P D cl w H := by
  simp only [oP_iff, List.mem_cons]
  exact ⟨fun h => ⟨h x (Or.inl rfl), fun q hq => h q (Or.inr hq)⟩, fun h q hq => hq.elim (fun e => e ▸ h.1) (h.2 q)⟩
theorem oP_mem {D : va_G} {cl : List vw_C} {w : va_W} {H : Heap} (h : va_P D cl w H) {x : Nat × va_E} (hx : x ∈ w) : va_at D cl x H := oP_iff.mp h x hx
theorem oP_perm {D : va_G} {cl : List vw_C} {w w' : va_W} {H : Heap} (hp : w.Perm w') (h : va_P D cl w H) : va_P D cl w' H := oP_iff.mpr fun q hq => oP_iff.mp h q (hp.mem_iff.mpr hq)
theorem oD_perm {A : Nat → Prop} {w w' : va_W} (hp : w.Perm w') (h : va_D A w) : va_D A w' := by
  rw [oD_iff] at h ⊢
  exact ⟨(hp.map Prod.fst).nodup_iff.mp h.1, fun q hq => h.2 q (hp.mem_iff.mpr hq)⟩
/-- only the addresses count for being apart -/
theorem oD_addr {A : Nat → Prop} {w w' : va_W} (e : w.map Prod.fst = w'.map Prod.fst) (h : va_D A w) : va_D A w' := by
  rw [oD_iff] at h ⊢
  refine ⟨e ▸ h.1, fun q hq => ?_⟩
  have : q.1 ∈ w.map Prod.fst := e ▸ List.mem_map.mpr ⟨q, hq, rfl⟩
  obtain ⟨x, hx, ex⟩ := List.mem_map.mp this
  exact ex ▸ h.2 x hx
theorem oD_weak {A B : Nat → Prop} {w : va_W} (h : va_D A w) (hAB : ∀ q, A q → B q) : va_D B w := h.weaken (fun _ q _ z => hAB q.1 z)
theorem oD_app {A : Nat → Prop} {w1 w2 : va_W} : va_D A (w1 ++ w2) ↔ va_D A w1 ∧ va_D A w2 ∧ ∀ p ∈ w1, ∀ q ∈ w2, p.1 ≠ q.1 := by
  simp only [oD_iff, List.map_append, List.nodup_append, List.mem_append, List.mem_map]
  constructor
  · rintro ⟨⟨h1, h2, h3⟩, h4⟩
    exact ⟨⟨h1, fun q hq => h4 q (Or.inl hq)⟩, ⟨h2, fun q hq => h4 q (Or.inr hq)⟩, fun p hp q hq => h3 p.1 ⟨p, hp, rfl⟩ q.1 ⟨q, hq, rfl⟩⟩
  · rintro ⟨⟨h1, h4⟩, ⟨h2, h5⟩, h3⟩
    refine ⟨⟨h1, h2, ?_⟩, fun q hq => hq.elim (h4 q) (h5 q)⟩
    rintro a ⟨p, hp, rfl⟩ b ⟨q, hq, rfl⟩
    exact h3 p hp q hq
/-- a callee's block in the middle of a world -/
theorem ol_join {A0 : Nat → Prop} {D : va_G} {cl : List vw_C} {Wl W0 Wr W1 : va_W} {H H1 : Heap} (hP : va_P D cl (Wl ++ (W0 ++ Wr)) H) (hD : va_D A0 (Wl ++ (W0 ++ Wr)))
    (hk : ∀ q : Nat, q < H.size → ¬ va_A W0 H.size q → H1[q]? = H[q]?) (hF : ∀ q, va_A W0 H.size q → A0 q) (hP1 : va_P D cl W1 H1) (hD1 : va_D (va_A W0 H.size) W1) : va_P D cl (Wl ++ (W1 ++ Wr)) H1 ∧ va_D A0 (Wl ++ (W1 ++ Wr)) := by
  rw [oP_app, oP_app] at hP
  rw [oD_app, oD_app] at hD
  obtain ⟨pl, p0, pr⟩ := hP
  obtain ⟨dl, ⟨d0, dr, d0r⟩, dlx⟩ := hD
  have hl : ∀ q ∈ Wl, ¬ va_A W0 H.size q.1 := fun q hq z => by
    rcases oA_iff.mp z with z | z
    · obtain ⟨x, hx, ex⟩ := List.mem_map.mp z
      exact dlx q hq x (List.mem_append_left _ hx) ex.symm
    · exact absurd (oP_iff.mp pl q hq).lt (by omega)
  have hr : ∀ q ∈ Wr, ¬ va_A W0 H.size q.1 := fun q hq z => by
    rcases oA_iff.mp z with z | z
    · obtain ⟨x, hx, ex⟩ := List.mem_map.mp z
      exact d0r x hx q hq ex
    · exact absurd (oP_iff.mp pr q hq).lt (by omega)
  have h1A : ∀ q ∈ W1, va_A W0 H.size q.1 := (oD_iff.mp hD1).2
  rw [oP_app, oP_app, oD_app, oD_app]
  refine ⟨⟨?_, hP1, ?_⟩, dl, ⟨oD_weak hD1 hF, dr, ?_⟩, ?_⟩
  · exact oP_iff.mpr fun q hq => (oP_iff.mp pl q hq).kept (hk q.1 (oP_iff.mp pl q hq).lt (hl q hq))
  · exact oP_iff.mpr fun q hq => (oP_iff.mp pr q hq).kept (hk q.1 (oP_iff.mp pr q hq).lt (hr q hq))
  · intro p hp q hq e
    exact hr q hq (e ▸ h1A p hp)
  · intro p hp q hq e
    rcases List.mem_append.mp hq with h | h
    · exact hl p hp (e ▸ h1A q h)
    · exact dlx p hp q (List.mem_append_right _ h) e
theorem ol_free {A0 : Nat → Prop} {Wl W0 Wr : va_W} {H0 H : Heap} {locs : List Loc} (hD : va_D A0 (Wl ++ (W0 ++ Wr))) (hS : va_S A0 H0 H locs) (hA : ∀ q, H0.size ≤ q → A0 q) : ∀ q, va_A W0 H.size q → A0 q := by
  intro q h
  rcases oA_iff.mp h with h | h
  · obtain ⟨x, hx, rfl⟩ := List.mem_map.mp h
    exact (oD_iff.mp hD).2 x (List.mem_append_right _ (List.mem_append_left _ hx))
  · exact hA q (Nat.le_trans hS.1 h)
/-! ends -/
/-- a method that only reads: its answer is known, the heap stays -/
def oR (v0 : Option Value) : Array Value → State → Outcome → State → Prop := fun _ st oc t => oc = .returned v0 ∧ t.heap = st.heap
/-- a method that changes its world W0, or makes cells: answer and new world are told by Φ -/
def oE (G : oG) (Φ : Option Value → va_W → Prop) (W0 : va_W) (sz : Nat) : Array Value → State → Outcome → State → Prop := fun _ st oc t => (∃ (v : Option Value) (W1 : va_W), oc = .returned v ∧ Φ v W1 ∧ va_P G.1 cl0 W1 t.heap ∧ va_D (va_A W0 sz) W1) ∧ va_F (va_A W0 sz) st t
def oPE (G : oG) (W0 : va_W) (sz : Nat) (X : Heap → Prop) : Heap → Prop := fun H => H.size = sz ∧ va_P G.1 cl0 W0 H ∧ va_D (fun _ => True) W0 ∧ X H
def zB (b : Bool) : Int32 := if b = true then 1 else 0
theorem zB_t : zB true = 1 := rfl
theorem zB_f : zB false = 0 := rfl
theorem zB_0 {b : Bool} : zB b = 0 ↔ b = false := by cases b <;> decide
theorem zB_1 {b : Bool} : zB b = 1 ↔ b = true := by cases b <;> decide
theorem zB_nar (b : Bool) : narrow .boolean (.int (zB b)) = .int (zB b) := by cases b <;> rfl
section OL0
variable {p : Program} {l : Launch} {e : Env} {R : Room} {s : State} {m : MethodId} {args : Array Value} {below : List Frame} {meth : Method} {c : Code} {H : Heap} {locs : List Loc} {cells slots : Nat} {Q : State → Prop}
variable {cc : ByteArray} {pc : Nat} {ls : Array Slot} {rest : List Value}

theorem ol_iadd (hexec : p.tables.exec = Jvm.exec) (hb : c.code = cc) (a b : Nat) (hdg : decode cc pc = .ok (.iadd, 1)) (k : W p l e R s m args below meth c H locs cells slots Q (F0 m (pc + 1) ls (.int (nI (a + b)) :: rest))) : W p l e R s m args below meth c H locs cells slots Q (F0 m pc ls (.int (nI b) :: .int (nI a) :: rest)) := lv_iadd hexec hb hdg (by rw [nI_add]; exact k)
theorem ol_isub (hexec : p.tables.exec = Jvm.exec) (hb : c.code = cc) (a b : Nat) (h : b ≤ a) (hdg : decode cc pc = .ok (.isub, 1)) (k : W p l e R s m args below meth c H locs cells slots Q (F0 m (pc + 1) ls (.int (nI (a - b)) :: rest))) : W p l e R s m args below meth c H locs cells slots Q (F0 m pc ls (.int (nI b) :: .int (nI a) :: rest)) := lv_isub hexec hb hdg (by rw [pk_sub h]; exact k)
theorem ol_imul (hexec : p.tables.exec = Jvm.exec) (hb : c.code = cc) (a b : Nat) (hdg : decode cc pc = .ok (.imul, 1)) (k : W p l e R s m args below meth c H locs cells slots Q (F0 m (pc + 1) ls (.int (nI (a * b)) :: rest))) : W p l e R s m args below meth c H locs cells slots Q (F0 m pc ls (.int (nI b) :: .int (nI a) :: rest)) := lv_imul hexec hb hdg (by rw [pk_mul]; exact k)
theorem ol_idiv (hexec : p.tables.exec = Jvm.exec) (hb : c.code = cc) (a b : Nat) (ha : a < 2 ^ 31) (h0 : 0 < b) (hb2 : b < 2 ^ 31) (hdg : decode cc pc = .ok (.idiv, 1)) (k : W p l e R s m args below meth c H locs cells slots Q (F0 m (pc + 1) ls (.int (nI (a / b)) :: rest))) : W p l e R s m args below meth c H locs cells slots Q (F0 m pc ls (.int (nI b) :: .int (nI a) :: rest)) := lv_idiv hexec hb hdg (nI_ne0 h0 hb2) (by rw [pk_div ha h0 hb2]; exact k)
theorem ol_irem (hexec : p.tables.exec = Jvm.exec) (hb : c.code = cc) (a b : Nat) (ha : a < 2 ^ 31) (h0 : 0 < b) (hb2 : b < 2 ^ 31) (hdg : decode cc pc = .ok (.irem, 1)) (k : W p l e R s m args below meth c H locs cells slots Q (F0 m (pc + 1) ls (.int (nI (a % b)) :: rest))) : W p l e R s m args below meth c H locs cells slots Q (F0 m pc ls (.int (nI b) :: .int (nI a) :: rest)) := lv_irem hexec hb hdg (nI_ne0 h0 hb2) (by rw [pk_rem ha h0 hb2]; exact k)
theorem ol_top {x y : Int32} (h : x = y) (k : W p l e R s m args below meth c H locs cells slots Q (F0 m pc ls (.int y :: rest))) : W p l e R s m args below meth c H locs cells slots Q (F0 m pc ls (.int x :: rest)) := by rw [h]; exact k
theorem ol_topf {x y : UInt32} (h : x = y) (k : W p l e R s m args below meth c H locs cells slots Q (F0 m pc ls (.float y :: rest))) : W p l e R s m args below meth c H locs cells slots Q (F0 m pc ls (.float x :: rest)) := by rw [h]; exact k
theorem ol_icmp_lt (hexec : p.tables.exec = Jvm.exec) (hb : c.code = cc) (a b : Nat) (ha : a < 2 ^ 31) (hb2 : b < 2 ^ 31) {off : Int} {tgt : Nat} (hdg : decode cc pc = .ok (.if_icmp .lt off, 3)) (ht : (pc : Int) + off = (tgt : Int)) (kt : a < b → W p l e R s m args below meth c H locs cells slots Q (F0 m tgt ls rest)) (kf : b ≤ a → W p l e R s m args below meth c H locs cells slots Q (F0 m (pc + 3) ls rest)) : W p l e R s m args below meth c H locs cells slots Q (F0 m pc ls (.int (nI b) :: .int (nI a) :: rest)) := lv_icmp_lt hexec hb hdg ht (fun h => kt ((nI_ltI ha hb2).mp h)) (fun h => kf (Nat.le_of_not_lt (fun q => h ((nI_ltI ha hb2).mpr q))))
theorem ol_icmp_ge (hexec : p.tables.exec = Jvm.exec) (hb : c.code = cc) (a b : Nat) (ha : a < 2 ^ 31) (hb2 : b < 2 ^ 31) {off : Int} {tgt : Nat} (hdg : decode cc pc = .ok (.if_icmp .ge off, 3)) (ht : (pc : Int) + off = (tgt : Int)) (kt : b ≤ a → W p l e R s m args below meth c H locs cells slots Q (F0 m tgt ls rest)) (kf : a < b → W p l e R s m args below meth c H locs cells slots Q (F0 m (pc + 3) ls rest)) : W p l e R s m args below meth c H locs cells slots Q (F0 m pc ls (.int (nI b) :: .int (nI a) :: rest)) := lv_icmp_ge hexec hb hdg ht (fun h => kt ((nI_leI hb2 ha).mp h)) (fun h => kf (Nat.lt_of_not_le (fun q => h ((nI_leI hb2 ha).mpr q))))
theorem ol_icmp_gt (hexec : p.tables.exec = Jvm.exec) (hb : c.code = cc) (a b : Nat) (ha : a < 2 ^ 31) (hb2 : b < 2 ^ 31) {off : Int} {tgt : Nat} (hdg : decode cc pc = .ok (.if_icmp .gt off, 3)) (ht : (pc : Int) + off = (tgt : Int)) (kt : b < a → W p l e R s m args below meth c H locs cells slots Q (F0 m tgt ls rest)) (kf : a ≤ b → W p l e R s m args below meth c H locs cells slots Q (F0 m (pc + 3) ls rest)) : W p l e R s m args below meth c H locs cells slots Q (F0 m pc ls (.int (nI b) :: .int (nI a) :: rest)) := lv_icmp_gt hexec hb hdg ht (fun h => kt ((nI_ltI hb2 ha).mp h)) (fun h => kf (Nat.le_of_not_lt (fun q => h ((nI_ltI hb2 ha).mpr q))))
theorem ol_icmp_le (hexec : p.tables.exec = Jvm.exec) (hb : c.code = cc) (a b : Nat) (ha : a < 2 ^ 31) (hb2 : b < 2 ^ 31) {off : Int} {tgt : Nat} (hdg : decode cc pc = .ok (.if_icmp .le off, 3)) (ht : (pc : Int) + off = (tgt : Int)) (kt : a ≤ b → W p l e R s m args below meth c H locs cells slots Q (F0 m tgt ls rest)) (kf : b < a → W p l e R s m args below meth c H locs cells slots Q (F0 m (pc + 3) ls rest)) : W p l e R s m args below meth c H locs cells slots Q (F0 m pc ls (.int (nI b) :: .int (nI a) :: rest)) := lv_icmp_le hexec hb hdg ht (fun h => kt ((nI_leI ha hb2).mp h)) (fun h => kf (Nat.lt_of_not_le (fun q => h ((nI_leI ha hb2).mpr q))))
theorem ol_icmp_eq (hexec : p.tables.exec = Jvm.exec) (hb : c.code = cc) (a b : Nat) (ha : a < 2 ^ 31) (hb2 : b < 2 ^ 31) {off : Int} {tgt : Nat} (hdg : decode cc pc = .ok (.if_icmp .eq off, 3)) (ht : (pc : Int) + off = (tgt : Int)) (kt : a = b → W p l e R s m args below meth c H locs cells slots Q (F0 m tgt ls rest)) (kf : a ≠ b → W p l e R s m args below meth c H locs cells slots Q (F0 m (pc + 3) ls rest)) : W p l e R s m args below meth c H locs cells slots Q (F0 m pc ls (.int (nI b) :: .int (nI a) :: rest)) := lv_icmp_eq hexec hb hdg ht (fun h => kt ((nI_eq ha hb2).mp h)) (fun h => kf (fun q => h ((nI_eq ha hb2).mpr q)))
theorem ol_icmp_ne (hexec : p.tables.exec = Jvm.exec) (hb : c.code = cc) (a b : Nat) (ha : a < 2 ^ 31) (hb2 : b < 2 ^ 31) {off : Int} {tgt : Nat} (hdg : decode cc pc = .ok (.if_icmp .ne off, 3)) (ht : (pc : Int) + off = (tgt : Int)) (kt : a ≠ b → W p l e R s m args below meth c H locs cells slots Q (F0 m tgt ls rest)) (kf : a = b → W p l e R s m args below meth c H locs cells slots Q (F0 m (pc + 3) ls rest)) : W p l e R s m args below meth c H locs cells slots Q (F0 m pc ls (.int (nI b) :: .int (nI a) :: rest)) := lv_icmp_ne hexec hb hdg ht (fun h => kt (fun q => h ((nI_eq ha hb2).mpr q))) (fun h => kf ((nI_eq ha hb2).mp h))
theorem ol_if_lt (hexec : p.tables.exec = Jvm.exec) (hb : c.code = cc) (a : Nat) (ha : a < 2 ^ 31) {off : Int} {tgt : Nat} (hdg : decode cc pc = .ok (.ifCond .lt off, 3)) (ht : (pc : Int) + off = (tgt : Int)) (kt : a < 0 → W p l e R s m args below meth c H locs cells slots Q (F0 m tgt ls rest)) (kf : 0 ≤ a → W p l e R s m args below meth c H locs cells slots Q (F0 m (pc + 3) ls rest)) : W p l e R s m args below meth c H locs cells slots Q (F0 m pc ls (.int (nI a) :: rest)) := lv_if_lt hexec hb hdg ht (fun h => kt ((nI_ltI ha (by decide : 0 < 2 ^ 31)).mp h)) (fun h => kf (Nat.le_of_not_lt (fun q => h ((nI_ltI ha (by decide : 0 < 2 ^ 31)).mpr q))))
theorem ol_if_ge (hexec : p.tables.exec = Jvm.exec) (hb : c.code = cc) (a : Nat) (ha : a < 2 ^ 31) {off : Int} {tgt : Nat} (hdg : decode cc pc = .ok (.ifCond .ge off, 3)) (ht : (pc : Int) + off = (tgt : Int)) (kt : 0 ≤ a → W p l e R s m args below meth c H locs cells slots Q (F0 m tgt ls rest)) (kf : a < 0 → W p l e R s m args below meth c H locs cells slots Q (F0 m (pc + 3) ls rest)) : W p l e R s m args below meth c H locs cells slots Q (F0 m pc ls (.int (nI a) :: rest)) := lv_if_ge hexec hb hdg ht (fun h => kt ((nI_leI (by decide : 0 < 2 ^ 31) ha).mp h)) (fun h => kf (Nat.lt_of_not_le (fun q => h ((nI_leI (by decide : 0 < 2 ^ 31) ha).mpr q))))
theorem ol_if_gt (hexec : p.tables.exec = Jvm.exec) (hb : c.code = cc) (a : Nat) (ha : a < 2 ^ 31) {off : Int} {tgt : Nat} (hdg : decode cc pc = .ok (.ifCond .gt off, 3)) (ht : (pc : Int) + off = (tgt : Int)) (kt : 0 < a → W p l e R s m args below meth c H locs cells slots Q (F0 m tgt ls rest)) (kf : a ≤ 0 → W p l e R s m args below meth c H locs cells slots Q (F0 m (pc + 3) ls rest)) : W p l e R s m args below meth c H locs cells slots Q (F0 m pc ls (.int (nI a) :: rest)) := lv_if_gt hexec hb hdg ht (fun h => kt ((nI_ltI (by decide : 0 < 2 ^ 31) ha).mp h)) (fun h => kf (Nat.le_of_not_lt (fun q => h ((nI_ltI (by decide : 0 < 2 ^ 31) ha).mpr q))))
theorem ol_if_le (hexec : p.tables.exec = Jvm.exec) (hb : c.code = cc) (a : Nat) (ha : a < 2 ^ 31) {off : Int} {tgt : Nat} (hdg : decode cc pc = .ok (.ifCond .le off, 3)) (ht : (pc : Int) + off = (tgt : Int)) (kt : a ≤ 0 → W p l e R s m args below meth c H locs cells slots Q (F0 m tgt ls rest)) (kf : 0 < a → W p l e R s m args below meth c H locs cells slots Q (F0 m (pc + 3) ls rest)) : W p l e R s m args below meth c H locs cells slots Q (F0 m pc ls (.int (nI a) :: rest)) := lv_if_le hexec hb hdg ht (fun h => kt ((nI_leI ha (by decide : 0 < 2 ^ 31)).mp h)) (fun h => kf (Nat.lt_of_not_le (fun q => h ((nI_leI ha (by decide : 0 < 2 ^ 31)).mpr q))))
theorem ol_if_eq (hexec : p.tables.exec = Jvm.exec) (hb : c.code = cc) (a : Nat) (ha : a < 2 ^ 31) {off : Int} {tgt : Nat} (hdg : decode cc pc = .ok (.ifCond .eq off, 3)) (ht : (pc : Int) + off = (tgt : Int)) (kt : a = 0 → W p l e R s m args below meth c H locs cells slots Q (F0 m tgt ls rest)) (kf : a ≠ 0 → W p l e R s m args below meth c H locs cells slots Q (F0 m (pc + 3) ls rest)) : W p l e R s m args below meth c H locs cells slots Q (F0 m pc ls (.int (nI a) :: rest)) := lv_if_eq hexec hb hdg ht (fun h => kt ((nI_eq ha (by decide : 0 < 2 ^ 31)).mp h)) (fun h => kf (fun q => h ((nI_eq ha (by decide : 0 < 2 ^ 31)).mpr q)))
theorem ol_if_ne (hexec : p.tables.exec = Jvm.exec) (hb : c.code = cc) (a : Nat) (ha : a < 2 ^ 31) {off : Int} {tgt : Nat} (hdg : decode cc pc = .ok (.ifCond .ne off, 3)) (ht : (pc : Int) + off = (tgt : Int)) (kt : a ≠ 0 → W p l e R s m args below meth c H locs cells slots Q (F0 m tgt ls rest)) (kf : a = 0 → W p l e R s m args below meth c H locs cells slots Q (F0 m (pc + 3) ls rest)) : W p l e R s m args below meth c H locs cells slots Q (F0 m pc ls (.int (nI a) :: rest)) := lv_if_ne hexec hb hdg ht (fun h => kt (fun q => h ((nI_eq ha (by decide : 0 < 2 ^ 31)).mpr q))) (fun h => kf ((nI_eq ha (by decide : 0 < 2 ^ 31)).mp h))
theorem ol_if_eqB (hexec : p.tables.exec = Jvm.exec) (hb : c.code = cc) (b : Bool) {off : Int} {tgt : Nat} (hdg : decode cc pc = .ok (.ifCond .eq off, 3)) (ht : (pc : Int) + off = (tgt : Int)) (kt : b = false → W p l e R s m args below meth c H locs cells slots Q (F0 m tgt ls rest)) (kf : b = true → W p l e R s m args below meth c H locs cells slots Q (F0 m (pc + 3) ls rest)) : W p l e R s m args below meth c H locs cells slots Q (F0 m pc ls (.int (zB b) :: rest)) := lv_if_eq hexec hb hdg ht (fun h => kt (zB_0.mp h)) (fun h => kf (by cases b <;> simp_all [zB]))
theorem ol_if_neB (hexec : p.tables.exec = Jvm.exec) (hb : c.code = cc) (b : Bool) {off : Int} {tgt : Nat} (hdg : decode cc pc = .ok (.ifCond .ne off, 3)) (ht : (pc : Int) + off = (tgt : Int)) (kt : b = true → W p l e R s m args below meth c H locs cells slots Q (F0 m tgt ls rest)) (kf : b = false → W p l e R s m args below meth c H locs cells slots Q (F0 m (pc + 3) ls rest)) : W p l e R s m args below meth c H locs cells slots Q (F0 m pc ls (.int (zB b) :: rest)) := lv_if_ne hexec hb hdg ht (fun h => kt (by cases b <;> simp_all [zB])) (fun h => kf (zB_0.mp h))
theorem ol_iinc (hexec : p.tables.exec = Jvm.exec) (hb : c.code = cc) {i nL k : Nat} (n x : Nat) {lv lv' : List (Nat × Value)} (hdg : decode cc pc = .ok (.iinc i (n : Int), 3)) (h : lv_has ls nL lv) (hk : lv[k]? = some (i, .int (nI x))) (hn : i < nL) (hl : (i, Value.int (nI (x + n))) :: lv.filter (fun q => !(q.1 == i) && !(q.1 + 1 == i && q.2.category == 2)) = lv') (kk : ∀ ls' : Array Slot, lv_has ls' nL lv' → W p l e R s m args below meth c H locs cells slots Q (F0 m (pc + 3) ls' rest)) : W p l e R s m args below meth c H locs cells slots Q (F0 m pc ls rest) := lv_iinc hexec hb hdg h hk (by rw [← nI_add]; rfl) hn hl kk
variable {D : va_G} {cl : List vw_C} {A : Nat → Prop} {a : Nat} {tys : List (ClassId × FieldType)} {ws : va_W} {H0 : Heap}
theorem ol_iald (hexec : p.tables.exec = Jvm.exec) (hb : c.code = cc) (hK : va_K D cl tys s) (hP : va_P D cl ws H) (q0 t0 : Nat) {cA : ClassId} {n : Nat} {f : Nat → Int32} (ha : ws[q0]? = some (a, .inl (cA, n, .inl f))) (ht : tys[t0]? = some (cA, .int)) (i : Nat) (hi : i < n) (hn : n ≤ 65536) (hdg : decode cc pc = .ok (.iaload, 1)) (kk : W p l e R s m args below meth c H locs cells slots Q (F0 m (pc + 1) ls (.int (f i) :: rest))) : W p l e R s m args below meth c H locs cells slots Q (F0 m pc ls (.int (nI i) :: .ref a :: rest)) := va_iald hexec hb hK hP q0 t0 ha ht (vp_in_nI hi (by omega)) hdg (by rw [nI_clamp (by omega)]; exact kk)
theorem ol_bald (hexec : p.tables.exec = Jvm.exec) (hb : c.code = cc) (hK : va_K D cl tys s) (hP : va_P D cl ws H) (q0 t0 : Nat) {cA : ClassId} {n : Nat} {f : Nat → Int32} (ha : ws[q0]? = some (a, .inl (cA, n, .inl f))) (ht : tys[t0]? = some (cA, .byte)) (i : Nat) (hi : i < n) (hn : n ≤ 65536) (hdg : decode cc pc = .ok (.baload, 1)) (kk : W p l e R s m args below meth c H locs cells slots Q (F0 m (pc + 1) ls (.int (f i) :: rest))) : W p l e R s m args below meth c H locs cells slots Q (F0 m pc ls (.int (nI i) :: .ref a :: rest)) := va_bald hexec hb hK hP q0 t0 ha ht (vp_in_nI hi (by omega)) hdg (by rw [nI_clamp (by omega)]; exact kk)
theorem ol_zald (hexec : p.tables.exec = Jvm.exec) (hb : c.code = cc) (hK : va_K D cl tys s) (hP : va_P D cl ws H) (q0 t0 : Nat) {cA : ClassId} {n : Nat} {f : Nat → Int32} (ha : ws[q0]? = some (a, .inl (cA, n, .inl f))) (ht : tys[t0]? = some (cA, .boolean)) (i : Nat) (hi : i < n) (hn : n ≤ 65536) (hdg : decode cc pc = .ok (.baload, 1)) (kk : W p l e R s m args below meth c H locs cells slots Q (F0 m (pc + 1) ls (.int (f i) :: rest))) : W p l e R s m args below meth c H locs cells slots Q (F0 m pc ls (.int (nI i) :: .ref a :: rest)) := va_zald hexec hb hK hP q0 t0 ha ht (vp_in_nI hi (by omega)) hdg (by rw [nI_clamp (by omega)]; exact kk)
theorem ol_cald (hexec : p.tables.exec = Jvm.exec) (hb : c.code = cc) (hK : va_K D cl tys s) (hP : va_P D cl ws H) (q0 t0 : Nat) {cA : ClassId} {n : Nat} {f : Nat → Int32} (ha : ws[q0]? = some (a, .inl (cA, n, .inl f))) (ht : tys[t0]? = some (cA, .char)) (i : Nat) (hi : i < n) (hn : n ≤ 65536) (hdg : decode cc pc = .ok (.caload, 1)) (kk : W p l e R s m args below meth c H locs cells slots Q (F0 m (pc + 1) ls (.int (f i) :: rest))) : W p l e R s m args below meth c H locs cells slots Q (F0 m pc ls (.int (nI i) :: .ref a :: rest)) := va_cald hexec hb hK hP q0 t0 ha ht (vp_in_nI hi (by omega)) hdg (by rw [nI_clamp (by omega)]; exact kk)
theorem ol_fald (hexec : p.tables.exec = Jvm.exec) (hb : c.code = cc) (hK : va_K D cl tys s) (hP : va_P D cl ws H) (q0 t0 : Nat) {cA : ClassId} {n : Nat} {f : Nat → UInt32} (ha : ws[q0]? = some (a, .inl (cA, n, .inr (.inr (.inl f))))) (ht : tys[t0]? = some (cA, .float)) (i : Nat) (hi : i < n) (hn : n ≤ 65536) (hdg : decode cc pc = .ok (.faload, 1)) (kk : W p l e R s m args below meth c H locs cells slots Q (F0 m (pc + 1) ls (.float (f i) :: rest))) : W p l e R s m args below meth c H locs cells slots Q (F0 m pc ls (.int (nI i) :: .ref a :: rest)) := va_fald hexec hb hK hP q0 t0 ha ht (vp_in_nI hi (by omega)) hdg (by rw [nI_clamp (by omega)]; exact kk)
theorem ol_iast (hexec : p.tables.exec = Jvm.exec) (hb : c.code = cc) (hK : va_K D cl tys s) (hP : va_P D cl ws H) (hD : va_D A ws) (hS : va_S A H0 H locs) (q0 t0 : Nat) {cA : ClassId} {n : Nat} {f : Nat → Int32} (ha : ws[q0]? = some (a, .inl (cA, n, .inl f))) (ht : tys[t0]? = some (cA, .int)) (i : Nat) {x : Int32} (hi : i < n) (hn : n ≤ 65536) (hdg : decode cc pc = .ok (.iastore, 1)) (kk : ∀ (H1 : Heap) (locs1 : List Loc), va_P D cl (ws.set q0 (a, .inl (cA, n, .inl (upd f i x)))) H1 → va_D A (ws.set q0 (a, .inl (cA, n, .inl (upd f i x)))) → va_S A H0 H1 locs1 → W p l e R s m args below meth c H1 locs1 cells slots Q (F0 m (pc + 1) ls rest)) : W p l e R s m args below meth c H locs cells slots Q (F0 m pc ls (.int x :: .int (nI i) :: .ref a :: rest)) := va_iast hexec hb hK hP hD hS q0 t0 ha ht (vp_in_nI hi (by omega)) hdg (by rw [nI_clamp (by omega)]; exact kk)
theorem ol_fast (hexec : p.tables.exec = Jvm.exec) (hb : c.code = cc) (hK : va_K D cl tys s) (hP : va_P D cl ws H) (hD : va_D A ws) (hS : va_S A H0 H locs) (q0 t0 : Nat) {cA : ClassId} {n : Nat} {f : Nat → UInt32} (ha : ws[q0]? = some (a, .inl (cA, n, .inr (.inr (.inl f))))) (ht : tys[t0]? = some (cA, .float)) (i : Nat) {x : UInt32} (hi : i < n) (hn : n ≤ 65536) (hdg : decode cc pc = .ok (.fastore, 1)) (kk : ∀ (H1 : Heap) (locs1 : List Loc), va_P D cl (ws.set q0 (a, .inl (cA, n, .inr (.inr (.inl (vf_upd f i x)))))) H1 → va_D A (ws.set q0 (a, .inl (cA, n, .inr (.inr (.inl (vf_upd f i x)))))) → va_S A H0 H1 locs1 → W p l e R s m args below meth c H1 locs1 cells slots Q (F0 m (pc + 1) ls rest)) : W p l e R s m args below meth c H locs cells slots Q (F0 m pc ls (.float x :: .int (nI i) :: .ref a :: rest)) := va_fast hexec hb hK hP hD hS q0 t0 ha ht (vp_in_nI hi (by omega)) hdg (by rw [nI_clamp (by omega)]; exact kk)
end OL0
section OL1
variable {p : Program} {l : Launch} {e : Env} {R : Room} {s : State} {m : MethodId} {args : Array Value} {below : List Frame} {meth : Method} {c : Code} {H : Heap} {locs : List Loc} {cells slots : Nat} {Q : State → Prop}
variable {pc : Nat} {ls : Array Slot} {rest st0 st1 : List Value} {a : Array Value} {A0 A1 : Nat → Prop} {H0 : Heap} {mc ms : Nat} {free : Addr → Prop}
theorem ol_cR {v0 : Option Value} (hr : va_Run p l e R s m args below meth c H locs cells slots 0 0 (F0 m pc ls st0) rest (oR v0 a) (fun _ => False)) (h1 : v0.toList ++ rest = st1) (kk : W p l e R s m args below meth c H locs cells slots Q (F0 m (pc + 3) ls st1)) : W p l e R s m args below meth c H locs cells slots Q (F0 m pc ls st0) := by
  intro T hT X
  obtain ⟨v, st₀, t, T', L, h0, X', hL, e1, e2, ⟨hv, hh⟩, st⟩ := hr T hT X
  cases hv
  subst h1
  obtain ⟨t2, a1, b1⟩ := kk T' (by rw [e1, hh, h0]) (Stand.forget X' (fun q h => (hL q h).elim))
  exact ⟨t2, st t2 a1, b1⟩
theorem ol_cF5 {v0 : Option Value} (hr : va_Run5 p l e R s m args below meth c H locs cells slots 0 0 (F0 m pc ls st0) rest (oR v0 a) (fun _ => False)) (h1 : v0.toList ++ rest = st1) (kk : W p l e R s m args below meth c H locs cells slots Q (F0 m (pc + 5) ls st1)) : W p l e R s m args below meth c H locs cells slots Q (F0 m pc ls st0) := by
  intro T hT X
  obtain ⟨v, st₀, t, T', L, h0, X', hL, e1, e2, ⟨hv, hh⟩, st⟩ := hr T hT X
  cases hv
  subst h1
  obtain ⟨t2, a1, b1⟩ := kk T' (by rw [e1, hh, h0]) (Stand.forget X' (fun q h => (hL q h).elim))
  exact ⟨t2, st t2 a1, b1⟩
theorem ol_cE {G : oG} {Φ : Option Value → va_W → Prop} {Wl W0 Wr : va_W} (hr : va_Run p l e R s m args below meth c H locs cells slots mc ms (F0 m pc ls st0) rest (oE G Φ W0 H.size a) (va_A W0 H.size)) (hP : va_P G.1 cl0 (Wl ++ (W0 ++ Wr)) H) (hD : va_D A0 (Wl ++ (W0 ++ Wr))) (hS : va_S A0 H0 H locs) (hA : ∀ q, H0.size ≤ q → A0 q)
    (kk : ∀ (v : Option Value) (W1 : va_W) (H1 : Heap) (locs1 : List Loc), Φ v W1 → va_P G.1 cl0 (Wl ++ (W1 ++ Wr)) H1 → va_D A0 (Wl ++ (W1 ++ Wr)) → va_S A0 H0 H1 locs1 → H.size ≤ H1.size → (∀ q : Nat, q < H.size → ¬ va_A W0 H.size q → H1[q]? = H[q]?) → W p l e R s m args below meth c H1 locs1 (cells + mc) (slots + ms) Q (F0 m (pc + 3) ls (v.toList ++ rest))) : W p l e R s m args below meth c H locs cells slots Q (F0 m pc ls st0) := by
  intro T hT X
  obtain ⟨v, st₀, t, T', L, h0, X', hL, e1, e2, ⟨⟨r, W1, hv, hp, hp1, hd1⟩, hz, hk⟩, st⟩ := hr T hT X
  cases hv
  rw [h0] at hz hk
  have hF := ol_free hD hS hA
  have hk' : ∀ q : Nat, q < H.size → ¬ va_A W0 H.size q → T'.heap[q]? = H[q]? := fun q h1 h2 => by rw [e1]; exact hk q h1 h2
  obtain ⟨hP1, hD1⟩ := ol_join hP hD hk' hF (by rw [e1]; exact hp1) hd1
  obtain ⟨t2, a1, b1⟩ := kk v W1 T'.heap (locs ++ L) hp hP1 hD1
    ⟨Nat.le_trans hS.1 (by rw [e1]; exact hz), fun q h1 h2 => by rw [hk' q (Nat.lt_of_lt_of_le h1 hS.1) (fun z => h2 (hF q z))]; exact hS.2.1 q h1 h2, fun q hq => by
      rcases List.mem_append.mp hq with h | h
      · exact hS.2.2 q h
      · exact hF _ (hL q h)⟩ (by rw [e1]; exact hz) hk' T' rfl X'
  exact ⟨t2, st t2 a1, b1⟩
theorem ol_cE5 {G : oG} {Φ : Option Value → va_W → Prop} {Wl W0 Wr : va_W} (hr : va_Run5 p l e R s m args below meth c H locs cells slots mc ms (F0 m pc ls st0) rest (oE G Φ W0 H.size a) (va_A W0 H.size)) (hP : va_P G.1 cl0 (Wl ++ (W0 ++ Wr)) H) (hD : va_D A0 (Wl ++ (W0 ++ Wr))) (hS : va_S A0 H0 H locs) (hA : ∀ q, H0.size ≤ q → A0 q)
    (kk : ∀ (v : Option Value) (W1 : va_W) (H1 : Heap) (locs1 : List Loc), Φ v W1 → va_P G.1 cl0 (Wl ++ (W1 ++ Wr)) H1 → va_D A0 (Wl ++ (W1 ++ Wr)) → va_S A0 H0 H1 locs1 → H.size ≤ H1.size → (∀ q : Nat, q < H.size → ¬ va_A W0 H.size q → H1[q]? = H[q]?) → W p l e R s m args below meth c H1 locs1 (cells + mc) (slots + ms) Q (F0 m (pc + 5) ls (v.toList ++ rest))) : W p l e R s m args below meth c H locs cells slots Q (F0 m pc ls st0) := by
  intro T hT X
  obtain ⟨v, st₀, t, T', L, h0, X', hL, e1, e2, ⟨⟨r, W1, hv, hp, hp1, hd1⟩, hz, hk⟩, st⟩ := hr T hT X
  cases hv
  rw [h0] at hz hk
  have hF := ol_free hD hS hA
  have hk' : ∀ q : Nat, q < H.size → ¬ va_A W0 H.size q → T'.heap[q]? = H[q]? := fun q h1 h2 => by rw [e1]; exact hk q h1 h2
  obtain ⟨hP1, hD1⟩ := ol_join hP hD hk' hF (by rw [e1]; exact hp1) hd1
  obtain ⟨t2, a1, b1⟩ := kk v W1 T'.heap (locs ++ L) hp hP1 hD1
    ⟨Nat.le_trans hS.1 (by rw [e1]; exact hz), fun q h1 h2 => by rw [hk' q (Nat.lt_of_lt_of_le h1 hS.1) (fun z => h2 (hF q z))]; exact hS.2.1 q h1 h2, fun q hq => by
      rcases List.mem_append.mp hq with h | h
      · exact hS.2.2 q h
      · exact hF _ (hL q h)⟩ (by rw [e1]; exact hz) hk' T' rfl X'
  exact ⟨t2, st t2 a1, b1⟩
theorem ol_iretR {cc : ByteArray} {v r : Int32} (hx : p.tables.exec = Jvm.exec) (hb : c.code = cc) (hr : meth.sig.returnType = some .int) (hlocks : meth.locks = false) (hH : H = s.heap) (he : v = r) (hdg : decode cc pc = .ok (.ireturn, 1)) : W p l e R s m args below meth c H [] cells slots (MQ below (oR (some (.int r))) args s cells slots free) (F0 m pc ls [.int v]) :=
  W.iret (v := v) hx hb hr (fun t ht _ => ⟨by rw [he], by rw [ht, hH]⟩) (fun q h => by cases h) hdg hlocks
theorem ol_zretR {cc : ByteArray} {v : Int32} {r : Bool} (hx : p.tables.exec = Jvm.exec) (hb : c.code = cc) (hr : meth.sig.returnType = some .boolean) (hlocks : meth.locks = false) (hH : H = s.heap) (he : v = zB r) (hdg : decode cc pc = .ok (.ireturn, 1)) : W p l e R s m args below meth c H [] cells slots (MQ below (oR (some (.int (zB r)))) args s cells slots free) (F0 m pc ls [.int v]) :=
  W.zret (v := v) hx hb hr (by rw [he]; exact zB_nar r) (fun t ht _ => ⟨by rw [he], by rw [ht, hH]⟩) (fun q h => by cases h) hdg hlocks
theorem ol_fretR {cc : ByteArray} {v r : UInt32} (hx : p.tables.exec = Jvm.exec) (hb : c.code = cc) (hr : meth.sig.returnType = some .float) (hlocks : meth.locks = false) (hH : H = s.heap) (he : v = r) (hdg : decode cc pc = .ok (.freturn, 1)) : W p l e R s m args below meth c H [] cells slots (MQ below (oR (some (.float r))) args s cells slots free) (F0 m pc ls [.float v]) :=
  W.fret (v := v) hx hb hr (fun t ht _ => ⟨by rw [he], by rw [ht, hH]⟩) (fun q h => by cases h) hdg hlocks
theorem ol_iretE {G : oG} {Φ : Option Value → va_W → Prop} {W0 W1 : va_W} {cc : ByteArray} {v : Int32} (hx : p.tables.exec = Jvm.exec) (hb : c.code = cc) (hr : meth.sig.returnType = some .int) (hlocks : meth.locks = false) (he : Φ (some (.int v)) W1) (hP : va_P G.1 cl0 W1 H) (hD : va_D (va_A W0 s.heap.size) W1) (hS : va_S (va_A W0 s.heap.size) s.heap H locs) (hdg : decode cc pc = .ok (.ireturn, 1)) : W p l e R s m args below meth c H locs cells slots (MQ below (oE G Φ W0 s.heap.size) args s cells slots (va_A W0 s.heap.size)) (F0 m pc ls [.int v]) :=
  W.iret (v := v) hx hb hr (fun t ht _ => ⟨⟨_, W1, rfl, he, by rw [ht]; exact hP, hD⟩, hS.F ht⟩) hS.2.2 hdg hlocks
theorem ol_zretE {G : oG} {Φ : Option Value → va_W → Prop} {W0 W1 : va_W} {cc : ByteArray} {v : Int32} {r : Bool} (hx : p.tables.exec = Jvm.exec) (hb : c.code = cc) (hr : meth.sig.returnType = some .boolean) (hlocks : meth.locks = false) (hv : v = zB r) (he : Φ (some (.int (zB r))) W1) (hP : va_P G.1 cl0 W1 H) (hD : va_D (va_A W0 s.heap.size) W1) (hS : va_S (va_A W0 s.heap.size) s.heap H locs) (hdg : decode cc pc = .ok (.ireturn, 1)) : W p l e R s m args below meth c H locs cells slots (MQ below (oE G Φ W0 s.heap.size) args s cells slots (va_A W0 s.heap.size)) (F0 m pc ls [.int v]) :=
  W.zret (v := v) hx hb hr (by rw [hv]; exact zB_nar r) (fun t ht _ => ⟨⟨_, W1, rfl, by rw [hv]; exact he, by rw [ht]; exact hP, hD⟩, hS.F ht⟩) hS.2.2 hdg hlocks
theorem ol_vretE {G : oG} {Φ : Option Value → va_W → Prop} {W0 W1 : va_W} {cc : ByteArray} (hx : p.tables.exec = Jvm.exec) (hb : c.code = cc) (hr : meth.sig.returnType = none) (hlocks : meth.locks = false) (he : Φ none W1) (hP : va_P G.1 cl0 W1 H) (hD : va_D (va_A W0 s.heap.size) W1) (hS : va_S (va_A W0 s.heap.size) s.heap H locs) (hdg : decode cc pc = .ok (.return_, 1)) : W p l e R s m args below meth c H locs cells slots (MQ below (oE G Φ W0 s.heap.size) args s cells slots (va_A W0 s.heap.size)) (F0 m pc ls []) :=
  W.vret hx hb hr (fun t ht _ => ⟨⟨_, W1, rfl, he, by rw [ht]; exact hP, hD⟩, hS.F ht⟩) hS.2.2 hdg hlocks
theorem ol_aretE {G : oG} {Φ : Option Value → va_W → Prop} {W0 W1 : va_W} {cc : ByteArray} {x : Nat} {rt : FieldType} (hx : p.tables.exec = Jvm.exec) (hb : c.code = cc) (hr : meth.sig.returnType = some rt) (hrt : (∃ n, rt = .object n) ∨ ∃ t, rt = .array t) (hlocks : meth.locks = false) (he : Φ (some (.ref x)) W1) (hP : va_P G.1 cl0 W1 H) (hD : va_D (va_A W0 s.heap.size) W1) (hS : va_S (va_A W0 s.heap.size) s.heap H locs) (hdg : decode cc pc = .ok (.areturn, 1)) : W p l e R s m args below meth c H locs cells slots (MQ below (oE G Φ W0 s.heap.size) args s cells slots (va_A W0 s.heap.size)) (F0 m pc ls [.ref x]) :=
  W.aret (v := .ref x) hx hb hr hrt (Or.inr ⟨x, rfl⟩) (fun t ht _ => ⟨⟨_, W1, rfl, he, by rw [ht]; exact hP, hD⟩, hS.F ht⟩) hS.2.2 hdg hlocks
theorem ol_aretR {cc : ByteArray} {x : Nat} {rt : FieldType} (hx : p.tables.exec = Jvm.exec) (hb : c.code = cc) (hr : meth.sig.returnType = some rt) (hrt : (∃ n, rt = .object n) ∨ ∃ t, rt = .array t) (hlocks : meth.locks = false) (hH : H = s.heap) (hdg : decode cc pc = .ok (.areturn, 1)) : W p l e R s m args below meth c H [] cells slots (MQ below (oR (some (.ref x))) args s cells slots free) (F0 m pc ls [.ref x]) :=
  W.aret (v := .ref x) hx hb hr hrt (Or.inr ⟨x, rfl⟩) (fun t ht _ => ⟨rfl, by rw [ht, hH]⟩) (fun q h => by cases h) hdg hlocks
theorem ol_anullR {cc : ByteArray} {rt : FieldType} (hx : p.tables.exec = Jvm.exec) (hb : c.code = cc) (hr : meth.sig.returnType = some rt) (hrt : (∃ n, rt = .object n) ∨ ∃ t, rt = .array t) (hlocks : meth.locks = false) (hH : H = s.heap) (hdg : decode cc pc = .ok (.areturn, 1)) : W p l e R s m args below meth c H [] cells slots (MQ below (oR (some .null)) args s cells slots free) (F0 m pc ls [.null]) :=
  W.aret (v := .null) hx hb hr hrt (Or.inl rfl) (fun t ht _ => ⟨rfl, by rw [ht, hH]⟩) (fun q h => by cases h) hdg hlocks
end OL1
