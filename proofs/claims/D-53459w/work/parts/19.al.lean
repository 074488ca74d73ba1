/-! LISTS as blocks: one contract for add -/
theorem oRoom {s : State} {pl : Platform} {r r' : Room} (hf : r.frames ≤ r'.frames) (hl : r.locals ≤ r'.locals) (hc : r.cells ≤ r'.cells) (hs : r.slots ≤ r'.slots) (h : s.hasRoom pl r' = true) : s.hasRoom pl r = true := by
  simp only [State.hasRoom, Bool.and_eq_true, decide_eq_true_eq] at h ⊢
  obtain ⟨⟨⟨⟨y, a, b, c, d, e⟩, f⟩, g⟩, i⟩ := h
  exact ⟨⟨⟨⟨by omega, by omega, by omega, by omega, by omega, e⟩, by omega⟩, by omega⟩, i⟩
/-- a contract with more room, a stronger start, a weaker end -/
theorem oMet_mono {l : Launch} {y : MethodName} {ws : List Cond} {rm rm' : Room} {Pc Pc' : Array Value → State → Prop} {Qc Qc' : Array Value → State → Outcome → State → Prop} {mc ms mc' ms' : Nat} {free free' : Addr → Prop} (h : Met l y ws rm Pc Qc mc ms free)
    (hr : rm.frames ≤ rm'.frames ∧ rm.locals ≤ rm'.locals ∧ rm.cells ≤ rm'.cells ∧ rm.slots ≤ rm'.slots) (h1 : mc ≤ mc') (h2 : ms ≤ ms') (hP : ∀ a s, Pc' a s → Pc a s) (hQ : ∀ a s o t, Pc' a s → Qc a s o t → Qc' a s o t) (hf : ∀ q, free q → free' q) : Met l y ws rm' Pc' Qc' mc' ms' free' := by
  intro p e ha hcs hk s m args below hfr happ hp hK
  obtain ⟨a1, a2, a3, a4, a5, a6, a7, a8⟩ := (Spec.appliesLoose_iff hfr).mp happ
  obtain ⟨n, o, b1, b2, b3, b4, L, ⟨c1, c2, c3⟩, b6⟩ := h p e ha hcs hk s m args below hfr ((Spec.appliesLoose_iff hfr).mpr ⟨a1, a2, a3, a4, a5, a6, oRoom hr.1 hr.2.1 hr.2.2.1 hr.2.2.2 a7, a8⟩) (hP _ _ hp) hK
  exact ⟨n, o, b1, b2, b3, hQ _ _ _ _ hp b4, L, ⟨c1, c2, c3.mono h1 h2⟩, fun q hq => hf _ (b6 q hq)⟩
/-- a list: its object, and its array if it has one -/
def alW (G : oG) (a b cap n : Nat) (md : Int32) (xs : Nat → Option Nat) : va_W := (a, .inr (9, [.int md, .ref b, .int (nI n)])) :: (if cap = 0 then [] else [(b, .inl (G.2 5, cap, .inr (.inr (.inr (.inr xs)))))])
def alN (cap n : Nat) : Nat := if n < cap then cap else if cap = 0 then 10 else cap + cap / 2
def alC (cap n : Nat) : Nat := if n < cap then 0 else 1
def alS (cap n : Nat) : Nat := if n < cap then 0 else alN cap n
theorem alW_0 {G : oG} {a b n : Nat} {md : Int32} {xs : Nat → Option Nat} : alW G a b 0 n md xs = [(a, .inr (9, [.int md, .ref b, .int (nI n)]))] := rfl
theorem alW_1 {G : oG} {a b cap n : Nat} {md : Int32} {xs : Nat → Option Nat} (h : 0 < cap) : alW G a b cap n md xs = [(a, .inr (9, [.int md, .ref b, .int (nI n)])), (b, .inl (G.2 5, cap, .inr (.inr (.inr (.inr xs)))))] := by
  unfold alW; rw [if_neg (by omega)]
theorem oPc1_0 {G : oG} {Z : oZ} {av : List Value} {P P' : Heap → Prop} (h : ∀ H, P' H → P H) : ∀ a s, oPc1 G Z av P' a s → oPc G av P a s := fun _ _ q => ⟨q.1, h _ q.2.1, q.2.2.1⟩
theorem oPc1_1 {G : oG} {Z : oZ} {av : List Value} {P P' : Heap → Prop} (h : ∀ H, P' H → P H) : ∀ a s, oPc1 G Z av P' a s → oPc1 G Z av P a s := fun _ _ q => ⟨q.1, h _ q.2.1, q.2.2⟩
theorem oPE1_0 {G : oG} {Z : oZ} {W0 : va_W} {sz : Nat} {X X' : Heap → Prop} (h : ∀ H, X' H → X H) : ∀ H, oPE1 G Z W0 sz X' H → oPE G W0 sz X H := fun _ q => ⟨q.1, q.2.1, oD_weak q.2.2.1 (fun _ _ => trivial), h _ q.2.2.2.2⟩
theorem oPE1_1 {G : oG} {Z : oZ} {W0 : va_W} {sz : Nat} {X X' : Heap → Prop} (h : ∀ H, X' H → X H) : ∀ H, oPE1 G Z W0 sz X' H → oPE1 G Z W0 sz X H := fun _ q => ⟨q.1, q.2.1, q.2.2.1, q.2.2.2.1, h _ q.2.2.2.2⟩
theorem oE_mono {G : oG} {Φ Φ' : Option Value → va_W → Prop} {W0 : va_W} {sz : Nat} {a : Array Value} {s t : State} {o : Outcome} (h : ∀ v W, Φ v W → Φ' v W) (q : oE G Φ W0 sz a s o t) : oE G Φ' W0 sz a s o t := by
  obtain ⟨⟨v, W1, e, h1, h2⟩, h3⟩ := q
  exact ⟨⟨v, W1, e, h _ _ h1, h2⟩, h3⟩
def alAdd (G : oG) (a v cap n : Nat) (md : Int32) (xs : Nat → Option Nat) : Option Value → va_W → Prop := fun v_ W_ => ∃ (q : Nat) (ys : Nat → Option Nat), v_ = some (.int 1) ∧ (∀ j, j < n → ys j = xs j) ∧ ys n = some v ∧ W_ = alW G a q (alN cap n) (n + 1) (md + 1) ys
theorem jm_add (l : Launch) (G : oG) (Z : oZ) (a b cap n : Nat) (md : Int32) (xs : Nat → Option Nat) (v : Nat) (hn : n ≤ cap) (h0 : cap = 0 → b = Z.2.2 0) (h2 : cap = 0 ∨ 2 ≤ cap) (hc : cap ≤ 40000) (sz : Nat) :
    Met l yJ2_add (ws_ yJ2_add cJ2_add 2 (some .boolean)) ({ frames := 6, cells := alC cap n, slots := alS cap n, locals := 140 }) (oPc1 G Z [.ref a, .ref v] (oPE1 G Z (alW G a b cap n md xs) sz (fun H => oEl G H v ∧ ∀ j : Nat, j < n → ∀ z : Nat, xs j = some z → oEl G H z))) (oE G (alAdd G a v cap n md xs) (alW G a b cap n md xs) sz) (alC cap n) (alS cap n) (va_A (alW G a b cap n md xs) sz) := by
  by_cases h : n < cap
  · rw [alW_1 (by omega)]
    exact oMet_mono (jm_addN l G a b n cap md xs v h (by omega) sz) ⟨Nat.le_of_ble_eq_true rfl, Nat.le_of_ble_eq_true rfl, Nat.zero_le _, Nat.zero_le _⟩ (Nat.zero_le _) (Nat.zero_le _) (oPc1_0 (oPE1_0 (fun _ q => q.1))) (fun _ _ _ _ _ q => oE_mono (fun v_ W_ hq => ⟨b, _, hq.1, fun j hj => va_up_ne _ _ (by omega), va_up_self _ _ _, by rw [show alN cap n = cap from if_pos h, alW_1 (by omega)]; exact hq.2⟩) q) (fun _ q => q)
  · by_cases hz : cap = 0
    · subst hz
      have hn0 : n = 0 := by omega
      subst hn0
      obtain rfl := h0 rfl
      rw [alW_0]
      exact oMet_mono (jm_add0 l G Z a md v sz) ⟨by decide, by decide, by decide, by decide⟩ (by decide) (by decide) (oPc1_1 (oPE1_1 (fun _ q => q.1))) (fun _ _ _ _ _ q => oE_mono (fun v_ W_ hq => by
        obtain ⟨q, e1, e2⟩ := hq
        exact ⟨q, _, e1, fun j hj => absurd hj (by omega), va_up_self _ _ _, e2⟩) q) (fun _ q => q)
    · obtain rfl : n = cap := by omega
      have eN : alN n n = n + n / 2 := by unfold alN; rw [if_neg h, if_neg hz]
      have eS : alS n n = n + n / 2 := by unfold alS; rw [if_neg h, eN]
      have eC : alC n n = 1 := by unfold alC; rw [if_neg h]
      rw [alW_1 (by omega), eS, eC]
      exact oMet_mono (jm_addG l G Z a b n md xs v (by omega) hc sz) ⟨Nat.le_of_ble_eq_true rfl, Nat.le_of_ble_eq_true rfl, Nat.le_refl _, Nat.le_refl _⟩ (Nat.le_refl _) (Nat.le_refl _) (fun _ _ q => q) (fun _ _ _ _ _ q => oE_mono (fun v_ W_ hq => by
        obtain ⟨q, e1, e2⟩ := hq
        refine ⟨q, _, e1, fun j hj => ?_, va_up_self _ _ _, by rw [eN, alW_1 (by omega)]; exact e2⟩
        rw [va_up_ne _ _ (by omega)]
        simp [va_cpy, hj]) q) (fun _ q => q)
