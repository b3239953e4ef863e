/-! the system's formulas answer as the reference's do -/
theorem neg_msb (x : Int32) : x < 0 ↔ x.toBitVec.msb = true := by
  rw [BitVec.msb_eq_toInt, decide_eq_true_eq, Int32.lt_iff_toInt_lt, tI0]
  rfl
theorem xor_neg {a b : Int32} (hb : 0 < b.toInt) : a ^^^ b < 0 ↔ a < 0 := by
  have h : b.toBitVec.msb = false := by
    cases q : b.toBitVec.msb with
    | false => rfl
    | true =>
      have := (neg_msb b).mpr q
      rw [Int32.lt_iff_toInt_lt, tI0] at this
      omega
  rw [neg_msb, neg_msb]
  show (a.toBitVec ^^^ b.toBitVec).msb = true ↔ _
  rw [BitVec.msb_xor, h]
  simp
theorem jfd_fl {a b : Int32} (hb : 0 < b.toInt) : jfd a b = tk_fl a b := by
  have hr := trm (a := a) hb
  unfold jfd tk_fl
  simp only [xor_neg hb]
  have hz : a / b * b = a ↔ (a - a / b * b).toInt = 0 := by
    constructor
    · intro q
      rw [q, Int32.toInt_sub]
      simp
    · intro q
      have q2 : a - a / b * b = 0 := Int32.toInt_inj.mp (by rw [q, tI0])
      have h3 := congrArg (fun z => z + a / b * b) q2
      simp only [Int32.sub_add_cancel, Int32.zero_add] at h3
      exact h3.symm
  by_cases h : a < 0
  · have h' := h
    rw [Int32.lt_iff_toInt_lt, tI0] at h'
    have hs : a.toInt.tmod b.toInt ≤ 0 := by
      have := Int.tmod_nonneg b.toInt (a := -a.toInt) (by omega)
      rw [Int.neg_tmod] at this
      omega
    by_cases h2 : a - a / b * b < 0
    · rw [if_pos h2, if_pos ⟨h, fun q => by rw [hz] at q; rw [Int32.lt_iff_toInt_lt, q, tI0] at h2; omega⟩]
    · rw [if_neg h2, if_neg]
      intro q
      refine q.2 (hz.mpr ?_)
      rw [Int32.lt_iff_toInt_lt, tI0] at h2
      omega
  · rw [if_neg (fun q => h q.1), if_neg]
    intro q
    rw [Int32.lt_iff_toInt_lt, tI0] at h q
    have := Int.tmod_nonneg b.toInt (a := a.toInt) (by omega)
    omega
theorem jmax_t (a b : Int32) : (jmax a b).toInt = max a.toInt b.toInt := by
  unfold jmax
  by_cases h : a < b
  · rw [if_pos h]; rw [Int32.lt_iff_toInt_lt] at h; omega
  · rw [if_neg h]; rw [Int32.lt_iff_toInt_lt] at h; omega
theorem jmin_t (a b : Int32) : (jmin a b).toInt = min a.toInt b.toInt := by
  unfold jmin
  by_cases h : b < a
  · rw [if_pos h]; rw [Int32.lt_iff_toInt_lt] at h; omega
  · rw [if_neg h]; rw [Int32.lt_iff_toInt_lt] at h; omega
theorem p_s2 {s : Int32} (h1 : 1 ≤ s.toInt) (h2 : s.toInt ≤ 1000) : (2 * s).toInt = 2 * s.toInt := by rw [tmul (by rw [tI2]; omega) (by rw [tI2]; omega), tI2]
theorem p_s2n {s : Int32} (h1 : 1 ≤ s.toInt) (h2 : s.toInt ≤ 1000) : ¬ 2 * s = 0 := fun q => by
  have := p_s2 h1 h2
  rw [q, tI0] at this
  omega
/-- a reading, by floorDiv and max -/
theorem p_read {l s : Int32} (hs : 1 ≤ s.toInt) (hs2 : s.toInt ≤ 1000) (h1 : -536870912 ≤ l.toInt) (h2 : l.toInt ≤ 536870912) : jmax 0 (jfd (2 * l + s) (2 * s) * s) = tk_rd l s := by
  have e3 := p_s2 hs hs2
  have e1 : (2 * l).toInt = 2 * l.toInt := by rw [tmul (by rw [tI2]; omega) (by rw [tI2]; omega), tI2]
  have e2 : (2 * l + s).toInt = 2 * l.toInt + s.toInt := by rw [tadd (by rw [e1]; omega) (by rw [e1]; omega), e1]
  rw [jfd_fl (by rw [e3]; omega)]
  have e4 := fl_toInt (a := 2 * l + s) (b := 2 * s) (by rw [e3]; omega) (by rw [e2]; omega)
  rw [e2, e3] at e4
  obtain ⟨b1, b2⟩ := (Int.ediv_eq_iff_of_pos (k := 2 * s.toInt) (by omega)).mp e4.symm
  have b3 : (tk_fl (2 * l + s) (2 * s)).toInt * (2 * s.toInt) = 2 * ((tk_fl (2 * l + s) (2 * s)).toInt * s.toInt) := by rw [← Int.mul_assoc, Int.mul_comm _ 2, Int.mul_assoc]
  rw [b3] at b1 b2
  have e5 : (tk_fl (2 * l + s) (2 * s) * s).toInt = (tk_fl (2 * l + s) (2 * s)).toInt * s.toInt := tmul (by omega) (by omega)
  unfold tk_rd jmax
  by_cases h : tk_fl (2 * l + s) (2 * s) < 0
  · rw [if_pos h, if_neg]
    rw [Int32.lt_iff_toInt_lt, tI0] at h ⊢
    rw [e5]
    have := Int.mul_le_mul_of_nonneg_right (a := (tk_fl (2 * l + s) (2 * s)).toInt) (b := 0) (c := s.toInt) (by omega) (by omega)
    omega
  · rw [if_neg h]
    rw [Int32.lt_iff_toInt_lt, tI0] at h
    have hn := Int.mul_nonneg (a := (tk_fl (2 * l + s) (2 * s)).toInt) (b := s.toInt) (by omega) (by omega)
    by_cases h2 : 0 < tk_fl (2 * l + s) (2 * s) * s
    · rw [if_pos h2]
    · rw [if_neg h2]
      rw [Int32.lt_iff_toInt_lt, tI0, e5] at h2
      exact Int32.toInt_inj.mp (by rw [e5, tI0]; omega)
/-- a quotient rounded up -/
def jup (v b : Int32) : Int32 := -jfd (-v) b
theorem jup_t {v b : Int32} (hb : 0 < b.toInt) (h1 : -1000000000 ≤ v.toInt) (h2 : v.toInt ≤ 1000000000) : (jup v b).toInt = -((-v.toInt) / b.toInt) := by
  have e1 : (-v).toInt = -v.toInt := tneg (by omega)
  unfold jup
  rw [jfd_fl hb]
  have e2 := fl_toInt (a := -v) (b := b) hb (by omega)
  rw [e1] at e2
  have h3 : -1000000000 ≤ (-v.toInt) / b.toInt := by
    rw [Int.le_ediv_iff_mul_le hb]
    have := Int.mul_le_mul_of_nonpos_left (a := -1000000000) (b := b.toInt) (c := 1) (by omega) (by omega)
    omega
  rw [tneg (by omega), e2]
variable {B : Nat} {d : Nat → Int32}
theorem p_t2 {r : Int32} (h0 : 0 ≤ r.toInt) (h1 : r.toInt ≤ 3000000) : (2 * r).toInt = 2 * r.toInt := by rw [tmul (by rw [tI2]; omega) (by rw [tI2]; omega), tI2]
/-- the greatest count -/
theorem p_gr (h : tk_ok B d) {r : Int32} {k : Nat} : (jfd (2 * r + d 8 - 1) 2 + d 9) / (d k - d (4 + k)) = tk_gr d r k := by
  rw [jfd_fl (by rw [tI2]; decide)]
  rfl
/-- the least count -/
theorem p_le (h : tk_ok B d) {r : Int32} {k : Nat} (hk : k < 4) (h0 : 0 ≤ r.toInt) (h1 : r.toInt ≤ 3000000) (hr : ¬ r = 0) : jmax 0 (jup (jup (2 * r - d 8) 2 - d 9) (d k + d (4 + k))) = tk_le d r k := by
  have hs := h.2.1
  have hw := h.1 k hk
  have h9 := h.2.2.1
  have hr0 : ¬ r.toInt = 0 := fun q => hr (Int32.toInt_inj.mp (by rw [q, tI0]))
  have e1 := p_t2 h0 h1
  have e2 : (2 * r - d 8).toInt = 2 * r.toInt - (d 8).toInt := by rw [tsub (by rw [e1]; omega) (by rw [e1]; omega), e1]
  have e3 : (jup (2 * r - d 8) 2).toInt = -(-(2 * r.toInt - (d 8).toInt) / 2) := by rw [jup_t (by rw [tI2]; decide) (by rw [e2]; omega) (by rw [e2]; omega), e2, tI2]
  have e4 : (jup (2 * r - d 8) 2 - d 9).toInt = -(-(2 * r.toInt - (d 8).toInt) / 2) - (d 9).toInt := by rw [tsub (by rw [e3]; omega) (by rw [e3]; omega), e3]
  have eh := heavy_t h hk
  have hlo := lo_t h h0 h1
  rw [if_neg hr0] at hlo
  have hlo2 : (tk_lo d r).toInt = -(-(2 * r.toInt - (d 8).toInt) / 2) := by rw [hlo]; omega
  refine Int32.toInt_inj.mp ?_
  rw [jmax_t, tI0, jup_t (by rw [eh]; omega) (by rw [e4]; omega) (by rw [e4]; omega), e4, eh, le_t h hk h0 h1, ← hlo2]
  generalize (tk_lo d r).toInt - (d 9).toInt = x
  generalize hb : (d k).toInt + (d (4 + k)).toInt = b
  have hb1 : 0 < b := by omega
  by_cases hx : x ≤ 0
  · rw [if_pos hx]
    have := Int.ediv_nonneg (a := -x) (b := b) (by omega) (by omega)
    omega
  · rw [if_neg hx]
    have e : -(-x / b) = (x + b - 1) / b := by
      symm
      rw [Int.ediv_eq_iff_of_pos hb1]
      have hh : (-x) / b = (-x) / b := rfl
      obtain ⟨c1, c2⟩ := (Int.ediv_eq_iff_of_pos hb1).mp hh
      rw [Int.neg_mul]
      omega
    rw [e]
    have := Int.ediv_nonneg (a := x + b - 1) (b := b) (by omega) (by omega)
    omega
theorem p_le0 {k : Nat} (h : tk_ok B d) : tk_le d 0 k = 0 := by
  have h9 := h.2.2.1
  unfold tk_le tk_lo
  rw [if_pos rfl, if_pos]
  rw [Int32.le_iff_toInt_le, tsub (by rw [tIm9]; omega) (by rw [tIm9]; omega), tIm9, tI0]
  omega
/-- the size of what a reading allows -/
def jrl (d : Nat → Int32) (r : Int32) (k : Nat) : Int32 := if tk_mu d r = true then tk_le d r k else 1
def jrg (d : Nat → Int32) (r : Int32) (k : Nat) : Int32 := if tk_mu d r = true then tk_gr d r k else 0
theorem jsize {lo hi : Int32} (h0 : 0 ≤ lo.toInt) (h1 : lo.toInt ≤ 1000000000) (h2 : 0 ≤ hi.toInt) (h3 : hi.toInt ≤ 1000000000) : (jmax 0 (hi - lo + 1)).toInt = max 0 (hi.toInt - lo.toInt + 1) := by
  have e1 : (hi - lo).toInt = hi.toInt - lo.toInt := tsub (by omega) (by omega)
  rw [jmax_t, tadd (by rw [e1, tI1]; omega) (by rw [e1, tI1]; omega), e1, tI1, tI0]
theorem p_leB (h : tk_ok B d) {r : Int32} {k : Nat} (hk : k < 4) (h0 : 0 ≤ r.toInt) (h1 : r.toInt ≤ 3000000) : 0 ≤ (tk_le d r k).toInt ∧ (tk_le d r k).toInt ≤ 4000000 := by
  have hs := h.2.1
  have hw := h.1 k hk
  have h9 := h.2.2.1
  have hl := lo_t h h0 h1
  refine ⟨le_0 h hk h0 h1, ?_⟩
  rw [le_t h hk h0 h1]
  split
  · decide
  · rename_i hc
    have hb : (tk_lo d r).toInt ≤ 3000000 := by rw [hl]; split <;> omega
    have := Int.ediv_le_self (a := (tk_lo d r).toInt - (d 9).toInt + ((d k).toInt + (d (4 + k)).toInt) - 1) ((d k).toInt + (d (4 + k)).toInt) (by omega)
    omega
theorem p_grB (h : tk_ok B d) {r : Int32} {k : Nat} (hk : k < 4) (h0 : 0 ≤ r.toInt) (h1 : r.toInt ≤ 3000000) : 0 ≤ (tk_gr d r k).toInt ∧ (tk_gr d r k).toInt ≤ 4000000 := by
  have := gr_b h hk h0 h1
  omega
theorem jrlB (h : tk_ok B d) {r : Int32} {k : Nat} (hk : k < 4) (h0 : 0 ≤ r.toInt) (h1 : r.toInt ≤ 3000000) : 0 ≤ (jrl d r k).toInt ∧ (jrl d r k).toInt ≤ 4000000 ∧ 0 ≤ (jrg d r k).toInt ∧ (jrg d r k).toInt ≤ 4000000 := by
  unfold jrl jrg
  have a := p_leB h hk h0 h1
  have b := p_grB h hk h0 h1
  split
  · exact ⟨a.1, a.2, b.1, b.2⟩
  · decide
/-- none is allowed -/
theorem p_none (h : tk_ok B d) {r : Int32} {k : Nat} (hk : k < 4) (h0 : 0 ≤ r.toInt) (h1 : r.toInt ≤ 3000000) : jmax 0 (jrg d r k - jrl d r k + 1) = 0 ↔ tk_al d r k = false := by
  obtain ⟨a1, a2, a3, a4⟩ := jrlB h hk h0 h1
  have hz := jsize a1 (by omega) a3 (by omega)
  have : jmax 0 (jrg d r k - jrl d r k + 1) = 0 ↔ (jmax 0 (jrg d r k - jrl d r k + 1)).toInt = 0 := ⟨fun q => by rw [q, tI0], fun q => Int32.toInt_inj.mp (by rw [q, tI0])⟩
  rw [this, hz]
  unfold jrl jrg tk_al
  by_cases hm : tk_mu d r = true
  · simp only [hm, if_true, Bool.true_and, decide_eq_false_iff_not, Int32.le_iff_toInt_le]
    omega
  · simp only [hm, if_false, Bool.false_and, iff_true]
    simp [hm]
/-- the nearest count, by one quotient -/
theorem p_ne {r w : Int32} (h0 : 0 ≤ r.toInt) (h1 : r.toInt ≤ 3000000) (hw0 : 1 ≤ w.toInt) (hw1 : w.toInt ≤ 5000) : (2 * r + w - 1) / (2 * w) = tk_ne r w := by
  have e1 := p_t2 h0 h1
  have e2 : (2 * w).toInt = 2 * w.toInt := by rw [tmul (by rw [tI2]; omega) (by rw [tI2]; omega), tI2]
  have e3 : (2 * r + w).toInt = 2 * r.toInt + w.toInt := by rw [tadd (by rw [e1]; omega) (by rw [e1]; omega), e1]
  have e4 : (2 * r + w - 1).toInt = 2 * r.toInt + w.toInt - 1 := by rw [tsub (by rw [e3, tI1]; omega) (by rw [e3, tI1]; omega), e3, tI1]
  have q1 := tdv (a := r) (b := w) (by omega)
  have q2 := trm (a := r) (b := w) (by omega)
  have m1 := Int.mul_tdiv_add_tmod r.toInt w.toInt
  have m2 := Int.tmod_lt_of_pos r.toInt (b := w.toInt) (by omega)
  have m3 := Int.tmod_nonneg w.toInt (a := r.toInt) h0
  have e5 : (2 * (r - r / w * w)).toInt = 2 * r.toInt.tmod w.toInt := by rw [tmul (by rw [tI2, q2]; omega) (by rw [tI2, q2]; omega), tI2, q2]
  have q0 : 0 ≤ r.toInt.tdiv w.toInt := Int.tdiv_nonneg h0 (by omega)
  have qm : r.toInt.tdiv w.toInt ≤ 3000000 := by
    have := Int.mul_le_mul_of_nonneg_right (a := 1) (b := w.toInt) (c := r.toInt.tdiv w.toInt) (by omega) q0
    omega
  refine Int32.toInt_inj.mp ?_
  rw [tdv (by rw [e2]; omega), e4, e2, Int.tdiv_eq_ediv_of_nonneg (by omega)]
  unfold tk_ne
  have hx : 2 * (w.toInt * r.toInt.tdiv w.toInt) = r.toInt.tdiv w.toInt * (2 * w.toInt) := by rw [Int.mul_comm w.toInt, ← Int.mul_assoc, Int.mul_comm 2, Int.mul_assoc]
  by_cases hc : w < 2 * (r - r / w * w)
  · rw [if_pos hc]
    rw [Int32.lt_iff_toInt_lt, e5] at hc
    rw [tadd (by rw [q1, tI1]; omega) (by rw [q1, tI1]; omega), q1, tI1, Int.ediv_eq_iff_of_pos (by omega), Int.add_mul]
    omega
  · rw [if_neg hc]
    rw [Int32.lt_iff_toInt_lt, e5] at hc
    rw [q1, Int.ediv_eq_iff_of_pos (by omega)]
    omega
/-- clamped -/
theorem p_clamp {lo hi n : Int32} (h : lo.toInt ≤ hi.toInt) : jmax lo (jmin hi n) = if n < lo then lo else if hi < n then hi else n := by
  refine Int32.toInt_inj.mp ?_
  rw [jmax_t, jmin_t]
  by_cases h1 : n < lo
  · rw [if_pos h1]; rw [Int32.lt_iff_toInt_lt] at h1; omega
  · rw [if_neg h1]
    by_cases h2 : hi < n
    · rw [if_pos h2]; rw [Int32.lt_iff_toInt_lt] at h1 h2; omega
    · rw [if_neg h2]; rw [Int32.lt_iff_toInt_lt] at h1 h2; omega
