/-! FLOATS: the means, the distance, what is learned; none of their steps is a NaN -/
/-- a mean: from 0.5 to 2^18, by its bits -/
def fOK (x : UInt32) : Prop := 1056964608 ≤ x.toNat ∧ x.toNat ≤ 1216348160
/-- a rate: from 0 to 1 -/
def fR (x : UInt32) : Prop := x.toNat ≤ 1065353216
def flt (a b : UInt32) : Bool := !decide (0 ≤ Op.cmpValue (FP.fcmp a b) .g)
def fle (a b : UInt32) : Bool := !decide (0 < Op.cmpValue (FP.fcmp a b) .g)
def fsz (v : UInt32) : UInt32 := if flt v FP.fconst0 = true then FP.fneg v else v
def offT (m : UInt32) (d : Int32) : UInt32 := FP.fdiv (fsz (FP.fsub (FP.i2f d) m)) m
def offF (m g : UInt32) (gp d : Int32) : UInt32 := if gp < 0 then offT m d else FP.fadd (offT m d) (FP.fmul (offT g gp) 1056964608)
def lrn0 (m rate : UInt32) (v : Int32) : UInt32 := FP.fadd m (FP.fmul (FP.fsub (FP.i2f v) m) rate)
def lrnF (m rate : UInt32) (v : Int32) : UInt32 := if flt (lrn0 m rate v) 1056964608 = true then 1056964608 else lrn0 m rate v
def okD : FP.Core.Datum → Prop
  | .nan => False
  | .inf _ => True
  | .fin _ c q => c < 16777216 ∧ q ≤ 104
theorem asm_n {s : Bool} {e t : Nat} (he : e < 256) (ht : t < 8388608) (h : e < 255 ∨ t = 0) : vf_n32 (.ofNat (FP.Core.assemble FP.Core.b32 s e t)) := by
  unfold vf_n32
  rw [UInt32.le_iff_toNat_le, UInt32.toNat_and, UInt32.toNat_ofNat']
  have e1 : FP.Core.assemble FP.Core.b32 s e t = (s.toNat * 256 + e) * 8388608 + t := rfl
  have e2 : ∀ z : Nat, z &&& (0x7fffffff : UInt32).toNat = z % 2 ^ 31 := fun z => Nat.and_two_pow_sub_one_eq_mod z 31
  have e3 : (0x7f800000 : UInt32).toNat = 2139095040 := rfl
  rw [e1, e2, e3]
  cases s <;> simp only [Bool.toNat_true, Bool.toNat_false] <;> omega
theorem okD_enc {d : FP.Core.Datum} (h : okD d) : vf_n32 (.ofNat (FP.Core.encode FP.Core.b32 d)) := by
  cases d with
  | nan => exact h.elim
  | inf s => exact asm_n (by decide) (by decide) (Or.inr rfl)
  | fin s c q =>
    obtain ⟨h1, h2⟩ := h
    have hq : FP.Core.b32.qmin = -149 := by decide
    have ht : FP.Core.b32.tails = 8388608 := by decide
    unfold FP.Core.encode
    dsimp only
    rw [ht, hq]
    split
    · exact asm_n (by decide) (by omega) (Or.inl (by decide))
    · exact asm_n (by omega) (by omega) (Or.inl (by omega))
theorem okD_ratio (s : Bool) (a b : Nat) (e : Int) : okD (FP.Core.roundRatio FP.Core.b32 s a b e) := by
  have hq : FP.Core.b32.qmin = -149 := by decide
  have hm : FP.Core.b32.qmax = 104 := by decide
  have ht : FP.Core.b32.tails = 8388608 := by decide
  have hp : (2 : Nat) ^ FP.Core.b32.p = 16777216 := by decide
  unfold FP.Core.roundRatio
  split
  · show 0 < 16777216 ∧ FP.Core.b32.qmin ≤ 104
    rw [hq]; decide
  · unfold FP.Core.roundAt FP.Core.settle FP.Core.bound
    rw [hp, hm, ht]
    split <;> split
    · rename_i h1 h2; exact ⟨h1, h2⟩
    · trivial
    · rename_i h1 h2; exact ⟨by decide, h2⟩
    · trivial
theorem okD_round {d : FP.Core.Datum} (h : d ≠ .nan) : okD (FP.Core.round FP.Core.b32 d) := by
  cases d with
  | nan => exact absurd rfl h
  | inf s => trivial
  | fin s c q => exact okD_ratio s c 1 q
/-- what is no NaN by its bits is no NaN -/
theorem dec_n {a : UInt32} (h : vf_n32 a) : FP.Core.decode FP.Core.b32 a.toNat ≠ .nan := by
  unfold vf_n32 at h
  rw [UInt32.le_iff_toNat_le, UInt32.toNat_and] at h
  have e2 : a.toNat &&& (0x7fffffff : UInt32).toNat = a.toNat % 2 ^ 31 := Nat.and_two_pow_sub_one_eq_mod a.toNat 31
  have e3 : (0x7f800000 : UInt32).toNat = 2139095040 := rfl
  rw [e2, e3] at h
  unfold FP.Core.decode FP.Core.fieldE FP.Core.fieldT
  have ht : FP.Core.b32.tails = 8388608 := by decide
  have hx : FP.Core.b32.exps = 256 := by decide
  rw [ht, hx]
  split
  · split
    · intro q; cases q
    · rename_i h1 h2; exfalso; omega
  · split <;> (intro q; cases q)
/-- a mean is finite, and not zero -/
theorem dec_m {m : UInt32} (h : fOK m) : ∃ s c q, FP.Core.decode FP.Core.b32 m.toNat = .fin s c q ∧ 0 < c := by
  obtain ⟨h1, h2⟩ := h
  unfold FP.Core.decode FP.Core.fieldE FP.Core.fieldT
  have ht : FP.Core.b32.tails = 8388608 := by decide
  have hx : FP.Core.b32.exps = 256 := by decide
  rw [ht, hx, if_neg (by omega), if_neg (by omega)]
  exact ⟨_, _, _, rfl, by omega⟩
theorem n_i2f (d : Int32) : vf_n32 (FP.i2f d) := okD_enc (okD_round (by intro q; cases q))
theorem n_sub {a b : UInt32} (ha : vf_n32 a) (hb : fOK b) : vf_n32 (FP.fsub a b) := by
  refine okD_enc (okD_round ?_)
  obtain ⟨s, c, q, e, -⟩ := dec_m hb
  rw [e]
  have := dec_n ha
  cases h : FP.Core.decode FP.Core.b32 a.toNat with
  | nan => exact absurd h this
  | inf t => intro z; cases z
  | fin t c q => intro z; cases z
theorem n_div {a b : UInt32} (ha : vf_n32 a) (hb : fOK b) : vf_n32 (FP.fdiv a b) := by
  refine okD_enc ?_
  obtain ⟨s, c, q, e, hc⟩ := dec_m hb
  rw [e]
  have := dec_n ha
  cases h : FP.Core.decode FP.Core.b32 a.toNat with
  | nan => exact absurd h this
  | inf t => trivial
  | fin t c2 q2 =>
    show okD (if c = 0 then _ else _)
    rw [if_neg (by omega)]
    exact okD_ratio _ _ _ _
theorem n_mul {a b : UInt32} (ha : vf_n32 a) (hb : fOK b) : vf_n32 (FP.fmul a b) := by
  refine okD_enc (okD_round ?_)
  obtain ⟨s, c, q, e, hc⟩ := dec_m hb
  rw [e]
  have := dec_n ha
  cases h : FP.Core.decode FP.Core.b32 a.toNat with
  | nan => exact absurd h this
  | inf t =>
    show (if c = 0 then _ else _) ≠ _
    rw [if_neg (by omega)]; intro z; cases z
  | fin t c q => intro z; cases z
theorem n_add {a b : UInt32} (ha : fOK a) (hb : vf_n32 b) : vf_n32 (FP.fadd a b) := by
  refine okD_enc (okD_round ?_)
  obtain ⟨s, c, q, e, -⟩ := dec_m ha
  rw [e]
  have := dec_n hb
  cases h : FP.Core.decode FP.Core.b32 b.toNat with
  | nan => exact absurd h this
  | inf t => intro z; cases z
  | fin t c q => intro z; cases z
theorem dec_okD {a : UInt32} (h : vf_n32 a) : okD (FP.Core.decode FP.Core.b32 a.toNat) := by
  have hn := dec_n h
  revert hn
  unfold FP.Core.decode FP.Core.fieldE FP.Core.fieldT
  have ht : FP.Core.b32.tails = 8388608 := by decide
  have hx : FP.Core.b32.exps = 256 := by decide
  have hq : FP.Core.b32.qmin = -149 := by decide
  rw [ht, hx, hq]
  split
  · split
    · intro _; trivial
    · intro hn; exact absurd rfl hn
  · split
    · intro _; exact ⟨by omega, by decide⟩
    · intro _; exact ⟨by omega, by omega⟩
theorem n_neg {a : UInt32} (ha : vf_n32 a) : vf_n32 (FP.fneg a) := by
  unfold vf_n32 at ha ⊢
  unfold FP.fneg
  rw [UInt32.le_iff_toNat_le, UInt32.toNat_and] at ha ⊢
  have e : (0x80000000 : UInt32).toNat &&& (0x7fffffff : UInt32).toNat = 0 := by decide
  rw [UInt32.toNat_xor, Nat.and_xor_distrib_right, e, Nat.xor_zero]
  exact ha
theorem n_ok {m : UInt32} (h : fOK m) : vf_n32 m := by
  unfold vf_n32
  rw [UInt32.le_iff_toNat_le, UInt32.toNat_and]
  have e2 : m.toNat &&& (0x7fffffff : UInt32).toNat = m.toNat % 2 ^ 31 := Nat.and_two_pow_sub_one_eq_mod m.toNat 31
  have e3 : (0x7f800000 : UInt32).toNat = 2139095040 := rfl
  rw [e2, e3]
  have := h.1; have := h.2; omega
theorem n_fsz {a : UInt32} (ha : vf_n32 a) : vf_n32 (fsz a) := by
  unfold fsz; split
  · exact n_neg ha
  · exact ha
/-- finite, of exponent at most B -/
def okF (B : Int) (d : FP.Core.Datum) : Prop := ∃ s c q, d = .fin s c q ∧ c < 16777216 ∧ -149 ≤ q ∧ q ≤ B
theorem lead_le (num den : Nat) : FP.Core.leading num den ≤ (num.log2 : Int) := by
  unfold FP.Core.leading
  dsimp only
  split <;> omega
theorem okF_ratio (s : Bool) {num den k : Nat} {e B : Int} (h : num < 2 ^ k) (hk : (k : Int) - 1 + e - 23 ≤ B) (hB : -149 ≤ B ∧ B ≤ 103) : okF (B + 1) (FP.Core.roundRatio FP.Core.b32 s num den e) := by
  have hq : FP.Core.b32.qmin = -149 := by decide
  have hm : FP.Core.b32.qmax = 104 := by decide
  have ht : FP.Core.b32.tails = 8388608 := by decide
  have hp : (2 : Nat) ^ FP.Core.b32.p = 16777216 := by decide
  have hp2 : ((FP.Core.b32.p : Nat) : Int) = 24 := by decide
  unfold FP.Core.roundRatio
  split
  · exact ⟨s, 0, _, rfl, by decide, by rw [hq]; decide, by rw [hq]; omega⟩
  · rename_i h0
    have hl : num.log2 < k := (Nat.log2_lt h0).mpr h
    have hle := lead_le num den
    have hqu : -149 ≤ FP.Core.quantum FP.Core.b32 num den e ∧ FP.Core.quantum FP.Core.b32 num den e ≤ B := by
      unfold FP.Core.quantum
      rw [hq, hp2]
      omega
    generalize FP.Core.quantum FP.Core.b32 num den e = q at hqu
    unfold FP.Core.roundAt FP.Core.settle FP.Core.bound
    rw [hp, hm, ht]
    split
    · rename_i h1
      rw [if_pos (by omega)]
      exact ⟨s, _, _, rfl, h1, hqu.1, by omega⟩
    · rw [if_pos (by omega)]
      exact ⟨s, _, _, rfl, by decide, by omega, by omega⟩
theorem asm_dec {s : Bool} {e t : Nat} (he : e < 255) (ht : t < 8388608) : ∃ s', FP.Core.decode FP.Core.b32 (UInt32.ofNat (FP.Core.assemble FP.Core.b32 s e t)).toNat = if e = 0 then .fin s' t (-149) else .fin s' (8388608 + t) (-149 + ((e : Int) - 1)) := by
  have e1 : FP.Core.assemble FP.Core.b32 s e t = (s.toNat * 256 + e) * 8388608 + t := rfl
  have hs : s.toNat ≤ 1 := by cases s <;> decide
  have ex : (UInt32.ofNat (FP.Core.assemble FP.Core.b32 s e t)).toNat = (s.toNat * 256 + e) * 8388608 + t := by
    rw [UInt32.toNat_ofNat', e1]; omega
  rw [ex]
  unfold FP.Core.decode FP.Core.fieldE FP.Core.fieldT
  have ht' : FP.Core.b32.tails = 8388608 := by decide
  have hx : FP.Core.b32.exps = 256 := by decide
  have hq : FP.Core.b32.qmin = -149 := by decide
  rw [ht', hx, hq]
  have h1 : ((s.toNat * 256 + e) * 8388608 + t) / 8388608 % 256 = e := by omega
  have h2 : ((s.toNat * 256 + e) * 8388608 + t) % 8388608 = t := by omega
  rw [h1, h2, if_neg (by omega)]
  split
  · exact ⟨_, rfl⟩
  · exact ⟨_, rfl⟩
theorem okF_dec {B : Int} {d : FP.Core.Datum} (h : okF B d) (hB : -149 ≤ B ∧ B ≤ 104) : okF B (FP.Core.decode FP.Core.b32 (UInt32.ofNat (FP.Core.encode FP.Core.b32 d)).toNat) := by
  obtain ⟨s, c, q, rfl, h1, h2, h3⟩ := h
  have hq : FP.Core.b32.qmin = -149 := by decide
  have ht : FP.Core.b32.tails = 8388608 := by decide
  unfold FP.Core.encode
  dsimp only
  rw [ht, hq]
  split
  · rename_i hc
    obtain ⟨s', e⟩ := asm_dec (s := s) (e := 0) (t := c) (by decide) hc
    rw [e, if_pos rfl]
    exact ⟨s', c, _, rfl, h1, by decide, hB.1⟩
  · rename_i hc
    obtain ⟨s', e⟩ := asm_dec (s := s) (e := (q - -149).toNat + 1) (t := c - 8388608) (by omega) (by omega)
    rw [e, if_neg (by omega)]
    exact ⟨s', _, _, rfl, by omega, by omega, by omega⟩
def fF (B : Int) (a : UInt32) : Prop := okF B (FP.Core.decode FP.Core.b32 a.toNat)
theorem fF_i2f (d : Int32) : fF 9 (FP.i2f d) := by
  refine okF_dec (okF_ratio _ (k := 32) (B := 8) ?_ (by decide) ⟨by decide, by decide⟩) ⟨by decide, by decide⟩
  have h1 := Int32.toInt_lt d
  have h2 := Int32.le_toInt d
  omega
theorem inU_lt {c K : Nat} {q e : Int} (h : c < 16777216) (hq : (q - e).toNat ≤ K) : FP.Core.inUnits c q e < 16777216 * 2 ^ K := by
  unfold FP.Core.inUnits
  have h1 : 2 ^ (q - e).toNat ≤ 2 ^ K := Nat.pow_le_pow_right (by decide) hq
  have h2 : c * 2 ^ (q - e).toNat ≤ c * 2 ^ K := Nat.mul_le_mul_left _ h1
  have h3 : c * 2 ^ K < 16777216 * 2 ^ K := Nat.mul_lt_mul_of_pos_right h (Nat.two_pow_pos K)
  omega
theorem sgn_abs (s : Bool) (c : Nat) : (FP.Core.signed s c).natAbs = c := by
  unfold FP.Core.signed; split <;> omega
theorem okF_sum {B : Int} {x y : FP.Core.Datum} (hx : okF B x) (hy : okF B y) (hB : -149 ≤ B ∧ B ≤ 102) : okF (B + 1 + 1) (FP.Core.round FP.Core.b32 (FP.Core.exactSum x y)) := by
  obtain ⟨s, c, q, rfl, h1, h2, h3⟩ := hx
  obtain ⟨t, d, r, rfl, g1, g2, g3⟩ := hy
  refine okF_ratio _ (k := 25 + (B - min q r).toNat) (B := B + 1) ?_ (by omega) ⟨by omega, by omega⟩
  unfold FP.Core.sumUnits
  have ha := inU_lt (K := (B - min q r).toNat) (q := q) (e := min q r) h1 (by omega)
  have hb := inU_lt (K := (B - min q r).toNat) (q := r) (e := min q r) g1 (by omega)
  have e1 := sgn_abs s (FP.Core.inUnits c q (min q r))
  have e2 := sgn_abs t (FP.Core.inUnits d r (min q r))
  have e3 : 2 ^ (25 + (B - min q r).toNat) = 33554432 * 2 ^ (B - min q r).toNat := by rw [Nat.pow_add]
  rw [e3]
  omega
theorem okF_neg {B : Int} {x : FP.Core.Datum} (hx : okF B x) : okF B (FP.Core.negate x) := by
  obtain ⟨s, c, q, rfl, h⟩ := hx
  exact ⟨_, c, q, rfl, h⟩
theorem okF_up {B B' : Int} {x : FP.Core.Datum} (hx : okF B x) (h : B ≤ B') : okF B' x := by
  obtain ⟨s, c, q, e, h1, h2, h3⟩ := hx
  exact ⟨s, c, q, e, h1, h2, by omega⟩
theorem fF_sub {B : Int} {a b : UInt32} (ha : fF B a) (hb : fF B b) (hB : -149 ≤ B ∧ B ≤ 102) : fF (B + 1 + 1) (FP.fsub a b) := okF_dec (okF_sum ha (okF_neg hb) hB) ⟨by omega, by omega⟩
theorem fF_add {B : Int} {a b : UInt32} (ha : fF B a) (hb : fF B b) (hB : -149 ≤ B ∧ B ≤ 102) : fF (B + 1 + 1) (FP.fadd a b) := okF_dec (okF_sum ha hb hB) ⟨by omega, by omega⟩
theorem fin_dec {a : UInt32} {K : Nat} (h : a.toNat < (K + 1) * 8388608) (hK : 1 ≤ K ∧ K ≤ 254) : fF (-150 + (K : Int)) a := by
  unfold fF FP.Core.decode FP.Core.fieldE FP.Core.fieldT
  have ht : FP.Core.b32.tails = 8388608 := by decide
  have hx : FP.Core.b32.exps = 256 := by decide
  have hq : FP.Core.b32.qmin = -149 := by decide
  rw [ht, hx, hq, if_neg (by omega)]
  split
  · exact ⟨_, _, _, rfl, by omega, by decide, by omega⟩
  · exact ⟨_, _, _, rfl, by omega, by omega, by omega⟩
theorem okF_mul {B1 B2 : Int} {x y : FP.Core.Datum} (hx : okF B1 x) (hy : okF B2 y) (hB : -149 ≤ 24 + B1 + B2 ∧ 24 + B1 + B2 ≤ 103) : okF (24 + B1 + B2 + 1) (FP.Core.round FP.Core.b32 (FP.Core.exactProduct x y)) := by
  obtain ⟨s, c, q, rfl, h1, h2, h3⟩ := hx
  obtain ⟨t, d, r, rfl, g1, g2, g3⟩ := hy
  refine okF_ratio _ (k := 48) (B := 24 + B1 + B2) ?_ (by omega) hB
  have : c * d < 16777216 * 16777216 := Nat.mul_lt_mul'' h1 g1
  omega
theorem okF_okD {B : Int} {x : FP.Core.Datum} (hx : okF B x) (hB : B ≤ 104) : okD x := by
  obtain ⟨s, c, q, rfl, h1, h2, h3⟩ := hx
  exact ⟨h1, by omega⟩
theorem fF_m {m : UInt32} (h : fOK m) : fF 9 m := okF_up (fin_dec (K := 145) (by have := h.2; omega) (by decide)) (by decide)
theorem fF_r {m : UInt32} (h : fR m) : fF (-22) m := okF_up (fin_dec (K := 127) (by unfold fR at h; omega) (by decide)) (by decide)
theorem fF_neg {B : Int} {a : UInt32} (h : fF B a) : fF B (FP.fneg a) := by
  have e : (FP.fneg a).toNat % 2147483648 = a.toNat % 2147483648 := by
    have e2 : ∀ z : Nat, z % 2147483648 = z &&& 2147483647 := fun z => (Nat.and_two_pow_sub_one_eq_mod z 31).symm
    unfold FP.fneg
    rw [e2, e2, UInt32.toNat_xor, Nat.and_xor_distrib_right]
    rw [show (0x80000000 : UInt32).toNat &&& 2147483647 = 0 by decide, Nat.xor_zero]
  revert h
  unfold fF FP.Core.decode FP.Core.fieldE FP.Core.fieldT
  have ht : FP.Core.b32.tails = 8388608 := by decide
  have hx : FP.Core.b32.exps = 256 := by decide
  rw [ht, hx]
  have e1 : (FP.fneg a).toNat / 8388608 % 256 = a.toNat / 8388608 % 256 := by omega
  have e2 : (FP.fneg a).toNat % 8388608 = a.toNat % 8388608 := by omega
  rw [e1, e2]
  split
  · split
    · rintro ⟨_, _, _, q, _⟩; cases q
    · rintro ⟨_, _, _, q, _⟩; cases q
  · split
    · rintro ⟨_, _, _, q, g⟩; cases q; exact ⟨_, _, _, rfl, g⟩
    · rintro ⟨_, _, _, q, g⟩; cases q; exact ⟨_, _, _, rfl, g⟩
theorem fF_fsz {B : Int} {a : UInt32} (h : fF B a) : fF B (fsz a) := by
  unfold fsz; split
  · exact fF_neg h
  · exact h
theorem dec_m2 {m : UInt32} (h : fOK m) : ∃ s c q, FP.Core.decode FP.Core.b32 m.toNat = .fin s c q ∧ 0 < c ∧ -24 ≤ q := by
  obtain ⟨h1, h2⟩ := h
  unfold FP.Core.decode FP.Core.fieldE FP.Core.fieldT
  have ht : FP.Core.b32.tails = 8388608 := by decide
  have hx : FP.Core.b32.exps = 256 := by decide
  have hq : FP.Core.b32.qmin = -149 := by decide
  rw [ht, hx, hq, if_neg (by omega), if_neg (by omega)]
  exact ⟨_, _, _, rfl, by omega, by omega⟩
theorem fF_div {B : Int} {a m : UInt32} (ha : fF B a) (hm : fOK m) (hB : -149 ≤ B ∧ B ≤ 79) : fF (B + 24 + 1) (FP.fdiv a m) := by
  refine okF_dec ?_ ⟨by omega, by omega⟩
  obtain ⟨s, c, q, e, h1, h2, h3⟩ := ha
  obtain ⟨t, d, r, e', g1, g2⟩ := dec_m2 hm
  rw [e, e']
  show okF _ (if d = 0 then _ else _)
  rw [if_neg (by omega)]
  exact okF_ratio _ (k := 24) (B := B + 24) h1 (by omega) ⟨by omega, by omega⟩
theorem fF_mul {B1 B2 : Int} {a b : UInt32} (ha : fF B1 a) (hb : fF B2 b) (hB : -149 ≤ 24 + B1 + B2 ∧ 24 + B1 + B2 ≤ 103) : fF (24 + B1 + B2 + 1) (FP.fmul a b) := okF_dec (okF_mul ha hb hB) ⟨by omega, by omega⟩
theorem fF_n {B : Int} {a : UInt32} (h : fF B a) : vf_n32 a := by
  unfold vf_n32
  rw [UInt32.le_iff_toNat_le, UInt32.toNat_and]
  have e2 : a.toNat &&& (0x7fffffff : UInt32).toNat = a.toNat % 2 ^ 31 := Nat.and_two_pow_sub_one_eq_mod a.toNat 31
  have e3 : (0x7f800000 : UInt32).toNat = 2139095040 := rfl
  rw [e2, e3]
  revert h
  unfold fF FP.Core.decode FP.Core.fieldE FP.Core.fieldT
  have ht : FP.Core.b32.tails = 8388608 := by decide
  have hx : FP.Core.b32.exps = 256 := by decide
  rw [ht, hx]
  split
  · split
    · rintro ⟨_, _, _, q, _⟩; cases q
    · rintro ⟨_, _, _, q, _⟩; cases q
  · intro _; omega
theorem fF_offT (d : Int32) {m : UInt32} (h : fOK m) : fF 36 (FP.fdiv (fsz (FP.fsub (FP.i2f d) m)) m) := fF_div (B := 11) (fF_fsz (fF_sub (B := 9) (fF_i2f d) (fF_m h) ⟨by decide, by decide⟩)) h ⟨by decide, by decide⟩
theorem fF_half : fF (-24) 1056964608 := fin_dec (K := 126) (by decide) (by decide)
theorem fF_two (d gp : Int32) {m g : UInt32} (h : fOK m) (h2 : fOK g) : fF 39 (FP.fadd (FP.fdiv (fsz (FP.fsub (FP.i2f d) m)) m) (FP.fmul (FP.fdiv (fsz (FP.fsub (FP.i2f gp) g)) g) 1056964608)) :=
  fF_add (B := 37) (okF_up (fF_offT d h) (by decide)) (fF_mul (B1 := 36) (B2 := -24) (fF_offT gp h2) fF_half ⟨by decide, by decide⟩) ⟨by decide, by decide⟩
theorem fF_off (d gp : Int32) {m g : UInt32} (h : fOK m) (h2 : fOK g) : fF 39 (offF m g gp d) := by
  unfold offF; split
  · exact okF_up (fF_offT d h) (by decide)
  · exact fF_two d gp h h2
theorem fk_sub (d : Int32) {m : UInt32} (h : fOK m) : vf_n32 (FP.fsub (FP.i2f d) m) := n_sub (n_i2f d) h
theorem fk_div (d : Int32) {m : UInt32} (h : fOK m) : vf_n32 (FP.fdiv (fsz (FP.fsub (FP.i2f d) m)) m) := n_div (n_fsz (fk_sub d h)) h
theorem fk_half (d : Int32) {m : UInt32} (h : fOK m) : vf_n32 (FP.fmul (FP.fdiv (fsz (FP.fsub (FP.i2f d) m)) m) 1056964608) := n_mul (fk_div d h) ⟨by decide, by decide⟩
theorem fk_add (d gp : Int32) {m g : UInt32} (h : fOK m) (h2 : fOK g) : vf_n32 (FP.fadd (FP.fdiv (fsz (FP.fsub (FP.i2f d) m)) m) (FP.fmul (FP.fdiv (fsz (FP.fsub (FP.i2f gp) g)) g) 1056964608)) := fF_n (fF_two d gp h h2)
theorem fk_diff (d gp d' gp' : Int32) {m g m' g' : UInt32} (h : fOK m) (h2 : fOK g) (h3 : fOK m') (h4 : fOK g') : vf_n32 (FP.fsub (offF m g gp d) (offF m' g' gp' d')) := fF_n (fF_sub (B := 39) (fF_off d gp h h2) (fF_off d' gp' h3 h4) ⟨by decide, by decide⟩)
theorem fk_lm (v : Int32) {m rate : UInt32} (h : fOK m) (hr : fR rate) : vf_n32 (FP.fmul (FP.fsub (FP.i2f v) m) rate) := okD_enc (okF_okD (okF_mul (fF_sub (fF_i2f v) (fF_m h) ⟨by decide, by decide⟩) (fF_r hr) ⟨by decide, by decide⟩) (by decide))
theorem fk_la (v : Int32) {m rate : UInt32} (h : fOK m) (hr : fR rate) : vf_n32 (FP.fadd m (FP.fmul (FP.fsub (FP.i2f v) m) rate)) := n_add h (fk_lm v h hr)
theorem fk_hund {m : UInt32} (h : fOK m) : vf_n32 (FP.fmul m 1120403456) := n_mul (n_ok h) ⟨by decide, by decide⟩
/-- what is learned is a mean again -/
theorem fk_learn {v : Int32} {m rate : UInt32} (h : fOK m) (hr : fR rate) (h0 : ¬ v < 0) (h1 : v ≤ 131072) : fOK (lrnF m rate v) := sorry
