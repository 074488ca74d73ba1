/-! FLOATS: the means, the distance, what is learned; none of their steps is a NaN -/
/-- a mean: from 0.5 to 2^18, by its bits -/
def fOK (x : UInt32) : Prop := 1056964608 ≤ x.toNat ∧ x.toNat ≤ 1216348160
/-- a rate: from 0 to 1 -/
def fR (x : UInt32) : Prop := x.toNat ≤ 1065353216
def flt (a b : UInt32) : Bool := !decide (0 ≤ Op.cmpValue (FP.fcmp a b) .g)
def fle (a b : UInt32) : Bool := !decide (0 < Op.cmpValue (FP.fcmp a b) .g)
def fsz (v : UInt32) : UInt32 := if flt v FP.fconst0 = true then FP.fneg v else v
def offT (m : UInt32) (d : Int32) : UInt32 := FP.fdiv (fsz (FP.fsub (FP.i2f d) m)) m
def offF (m g : UInt32) (gp d : Int32) : UInt32 := if gp < 0 then offT m d else FP.fadd (offT m d) (FP.fmul (offT g gp) 1056964608)
def lrn0 (m rate : UInt32) (v : Int32) : UInt32 := FP.fadd m (FP.fmul (FP.fsub (FP.i2f v) m) rate)
def lrnF (m rate : UInt32) (v : Int32) : UInt32 := if flt (lrn0 m rate v) 1056964608 = true then 1056964608 else lrn0 m rate v
theorem fk_sub (d : Int32) {m : UInt32} (h : fOK m) : vf_n32 (FP.fsub (FP.i2f d) m) := sorry
theorem fk_div (d : Int32) {m : UInt32} (h : fOK m) : vf_n32 (FP.fdiv (fsz (FP.fsub (FP.i2f d) m)) m) := sorry
theorem fk_half (d : Int32) {m : UInt32} (h : fOK m) : vf_n32 (FP.fmul (FP.fdiv (fsz (FP.fsub (FP.i2f d) m)) m) 1056964608) := sorry
theorem fk_add (d gp : Int32) {m g : UInt32} (h : fOK m) (h2 : fOK g) : vf_n32 (FP.fadd (FP.fdiv (fsz (FP.fsub (FP.i2f d) m)) m) (FP.fmul (FP.fdiv (fsz (FP.fsub (FP.i2f gp) g)) g) 1056964608)) := sorry
theorem fk_diff (d gp d' gp' : Int32) {m g m' g' : UInt32} (h : fOK m) (h2 : fOK g) (h3 : fOK m') (h4 : fOK g') : vf_n32 (FP.fsub (offF m g gp d) (offF m' g' gp' d')) := sorry
theorem fk_lm (v : Int32) {m rate : UInt32} (h : fOK m) (hr : fR rate) : vf_n32 (FP.fmul (FP.fsub (FP.i2f v) m) rate) := sorry
theorem fk_la (v : Int32) {m rate : UInt32} (h : fOK m) (hr : fR rate) : vf_n32 (FP.fadd m (FP.fmul (FP.fsub (FP.i2f v) m) rate)) := sorry
theorem fk_hund {m : UInt32} (h : fOK m) : vf_n32 (FP.fmul m 1120403456) := sorry
/-- what is learned is a mean again -/
theorem fk_learn {v : Int32} {m rate : UInt32} (h : fOK m) (hr : fR rate) (h0 : ¬ v < 0) (h1 : v ≤ 131072) : fOK (lrnF m rate v) := sorry
