/-! WORLDS OF BLOCKS: calls out of the middle of a world, by counting cells -/
noncomputable def oC1 (y x : Nat × va_E) : Nat := @ite Nat (y = x) (Classical.propDecidable _) 1 0
theorem oC1_s (x : Nat × va_E) : oC1 x x = 1 := if_pos rfl
noncomputable def oCt (x : Nat × va_E) : va_W → Nat
  | [] => 0
  | y :: w => oCt x w + oC1 y x
theorem oCt_app (x : Nat × va_E) (w1 w2 : va_W) : oCt x (w1 ++ w2) = oCt x w1 + oCt x w2 := by
  induction w1 with
  | nil => simp [oCt]
  | cons y w ih => simp only [List.cons_append, oCt, ih]; omega
theorem oCt_pos {x : Nat × va_E} {w : va_W} : 0 < oCt x w ↔ x ∈ w := by
  induction w with
  | nil => simp [oCt]
  | cons y w ih =>
    simp only [oCt, List.mem_cons]
    by_cases h : y = x
    · rw [h, oC1_s]; exact ⟨fun _ => Or.inl rfl, fun _ => by omega⟩
    · rw [show oC1 y x = 0 from if_neg h, Nat.add_zero, ih]
      exact ⟨Or.inr, fun q => q.elim (fun e => absurd e.symm h) id⟩
theorem oCt_perm {w1 : va_W} : ∀ {w2 : va_W}, (∀ x, oCt x w1 = oCt x w2) → w1.Perm w2 := by
  induction w1 with
  | nil =>
    intro w2 h
    match w2, h with
    | [], _ => exact List.Perm.refl _
    | y :: w, h =>
      have := h y
      simp only [oCt, oC1_s] at this
      omega
  | cons y w ih =>
    intro w2 h
    have hy : y ∈ w2 := oCt_pos.mp (by rw [← h y]; simp only [oCt, oC1_s]; omega)
    obtain ⟨l, r, rfl⟩ := List.append_of_mem hy
    refine List.Perm.trans (List.Perm.cons y (ih (w2 := l ++ r) (fun x => ?_))) List.perm_middle.symm
    have := h x
    rw [oCt_app] at this ⊢
    simp only [oCt] at this
    omega
section OL9
variable {p : Program} {l : Launch} {e : Env} {R : Room} {s : State} {m : MethodId} {args : Array Value} {below : List Frame} {meth : Method} {c : Code} {H : Heap} {locs : List Loc} {cells slots : Nat} {Q : State → Prop}
variable {pc : Nat} {ls : Array Slot} {rest st0 : List Value} {a : Array Value} {A0 : Nat → Prop} {H0 : Heap} {mc ms : Nat}
/-- a mutator's call out of any world: W0 is the callee's, Wr the rest -/
theorem ol_cP {G : oG} {Φ : Option Value → va_W → Prop} {ws W0 Wr : va_W} (hr : va_Run p l e R s m args below meth c H locs cells slots mc ms (F0 m pc ls st0) rest (oE G Φ W0 H.size a) (va_A W0 H.size)) (hp : ∀ x, oCt x ws = oCt x (W0 ++ Wr)) (hP : va_P G.1 cl0 ws H) (hD : va_D A0 ws) (hS : va_S A0 H0 H locs) (hA : ∀ q, H0.size ≤ q → A0 q)
    (kk : ∀ (v : Option Value) (W1 : va_W) (H1 : Heap) (locs1 : List Loc), Φ v W1 → va_P G.1 cl0 (W1 ++ Wr) H1 → va_D A0 (W1 ++ Wr) → va_S A0 H0 H1 locs1 → W p l e R s m args below meth c H1 locs1 (cells + mc) (slots + ms) Q (F0 m (pc + 3) ls (v.toList ++ rest))) : W p l e R s m args below meth c H locs cells slots Q (F0 m pc ls st0) :=
  ol_cE (Wl := []) (Wr := Wr) hr (oP_perm (oCt_perm hp) hP) (oD_perm (oCt_perm hp) hD) hS hA (fun v W1 H1 locs1 hΦ hP1 hD1 hS1 _ _ => kk v W1 H1 locs1 hΦ hP1 hD1 hS1)
theorem ol_cP5 {G : oG} {Φ : Option Value → va_W → Prop} {ws W0 Wr : va_W} (hr : va_Run5 p l e R s m args below meth c H locs cells slots mc ms (F0 m pc ls st0) rest (oE G Φ W0 H.size a) (va_A W0 H.size)) (hp : ∀ x, oCt x ws = oCt x (W0 ++ Wr)) (hP : va_P G.1 cl0 ws H) (hD : va_D A0 ws) (hS : va_S A0 H0 H locs) (hA : ∀ q, H0.size ≤ q → A0 q)
    (kk : ∀ (v : Option Value) (W1 : va_W) (H1 : Heap) (locs1 : List Loc), Φ v W1 → va_P G.1 cl0 (W1 ++ Wr) H1 → va_D A0 (W1 ++ Wr) → va_S A0 H0 H1 locs1 → W p l e R s m args below meth c H1 locs1 (cells + mc) (slots + ms) Q (F0 m (pc + 5) ls (v.toList ++ rest))) : W p l e R s m args below meth c H locs cells slots Q (F0 m pc ls st0) :=
  ol_cE5 (Wl := []) (Wr := Wr) hr (oP_perm (oCt_perm hp) hP) (oD_perm (oCt_perm hp) hD) hS hA (fun v W1 H1 locs1 hΦ hP1 hD1 hS1 _ _ => kk v W1 H1 locs1 hΦ hP1 hD1 hS1)
end OL9
theorem oP_re {D : va_G} {cl : List vw_C} {w w' : va_W} {H : Heap} (h : va_P D cl w H) (hp : ∀ x, oCt x w = oCt x w') : va_P D cl w' H := oP_perm (oCt_perm hp) h
theorem oD_re {A : Nat → Prop} {w w' : va_W} (h : va_D A w) (hp : ∀ x, oCt x w = oCt x w') : va_D A w' := oD_perm (oCt_perm hp) h
/-- cells of a world, and its blocks, hold by themselves -/
theorem oP_le {D : va_G} {cl : List vw_C} {w w' : va_W} {H : Heap} (h : va_P D cl w H) (hp : ∀ x, oCt x w' ≤ oCt x w) : va_P D cl w' H :=
  oP_iff.mpr fun x hx => oP_iff.mp h x (oCt_pos.mp (Nat.lt_of_lt_of_le (oCt_pos.mpr hx) (hp x)))
theorem oD_le {A : Nat → Prop} {w w' : va_W} (h : va_D A w) (r : va_W) (hp : ∀ x, oCt x w = oCt x (w' ++ r)) : va_D A w' := (oD_app.mp (oD_perm (oCt_perm hp) h)).1
