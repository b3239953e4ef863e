/-! numbers without overflow -/
theorem tadd {a b : Int32} (h1 : -2147483648 ≤ a.toInt + b.toInt) (h2 : a.toInt + b.toInt ≤ 2147483647) : (a + b).toInt = a.toInt + b.toInt := by
  rw [Int32.toInt_add]; exact Int.bmod_eq_of_le (by omega) (by omega)
theorem tsub {a b : Int32} (h1 : -2147483648 ≤ a.toInt - b.toInt) (h2 : a.toInt - b.toInt ≤ 2147483647) : (a - b).toInt = a.toInt - b.toInt := by
  rw [Int32.toInt_sub]; exact Int.bmod_eq_of_le (by omega) (by omega)
theorem tmul {a b : Int32} (h1 : -2147483648 ≤ a.toInt * b.toInt) (h2 : a.toInt * b.toInt ≤ 2147483647) : (a * b).toInt = a.toInt * b.toInt := by
  rw [Int32.toInt_mul]; exact Int.bmod_eq_of_le (by omega) (by omega)
theorem tneg {a : Int32} (h1 : -2147483648 < a.toInt) : (-a).toInt = -a.toInt := by
  rw [Int32.toInt_neg]; have := a.toInt_lt; exact Int.bmod_eq_of_le (by omega) (by omega)
theorem tdv {a b : Int32} (hb : 0 < b.toInt) : (a / b).toInt = a.toInt.tdiv b.toInt :=
  Int32.toInt_div_of_ne_right a b (fun q => by rw [q] at hb; exact absurd hb (by decide))
theorem tI0 : (0 : Int32).toInt = 0 := by decide
theorem tI1 : (1 : Int32).toInt = 1 := by decide
theorem tI2 : (2 : Int32).toInt = 2 := by decide
/-- the remainder -/
theorem trm {a b : Int32} (hb : 0 < b.toInt) : (a - a / b * b).toInt = a.toInt.tmod b.toInt := by
  have hm := Int.mul_tdiv_add_tmod a.toInt b.toInt
  have h1 := Int.tmod_lt_of_pos a.toInt hb
  have h2 := Int.lt_tmod_of_pos a.toInt hb
  have h3 := b.toInt_lt
  rw [Int32.toInt_sub, Int32.toInt_mul, tdv hb, Int.mul_comm (a.toInt.tdiv b.toInt), Int.sub_bmod_bmod, show a.toInt - b.toInt * a.toInt.tdiv b.toInt = a.toInt.tmod b.toInt by omega]
  exact Int.bmod_eq_of_le (by omega) (by omega)
/-- the floor of a quotient -/
theorem fl_toInt {a b : Int32} (hb : 0 < b.toInt) (h1 : -2147483648 < a.toInt) : (tk_fl a b).toInt = a.toInt / b.toInt := by
  have hr := trm (a := a) hb
  have hm := Int.mul_tdiv_add_tmod a.toInt b.toInt
  have h3 := Int.tmod_lt_of_pos a.toInt hb
  have h2 := Int.lt_tmod_of_pos a.toInt hb
  have hq := tdv (a := a) hb
  have hql := (a / b).toInt_lt
  have hqm := (a / b).le_toInt
  symm
  unfold tk_fl
  by_cases hc : a - a / b * b < 0
  · rw [if_pos hc, Int.ediv_eq_iff_of_pos hb]
    rw [Int32.lt_iff_toInt_lt, hr, tI0] at hc
    have hne : -2147483648 < a.toInt.tdiv b.toInt := by
      rcases Int.lt_or_le (-2147483648) (a.toInt.tdiv b.toInt) with q | q
      · exact q
      · have hz : a.toInt.tdiv b.toInt = -2147483648 := by omega
        rw [hz] at hm
        have : b.toInt * -2147483648 ≤ 1 * -2147483648 := Int.mul_le_mul_of_nonpos_right (by omega) (by decide)
        omega
    rw [tsub (by rw [hq, tI1]; omega) (by rw [hq, tI1]; omega), hq, tI1, Int.sub_mul, Int.mul_comm (a.toInt.tdiv b.toInt)]
    omega
  · rw [if_neg hc, Int.ediv_eq_iff_of_pos hb]
    rw [Int32.lt_iff_toInt_lt, hr, tI0] at hc
    rw [hq, Int.mul_comm (a.toInt.tdiv b.toInt)]
    omega
/-- a reading r of a load: a multiple of the step that is nearest to it, or 0 -/
def tk_isRd (l s r : Int) : Prop := 0 ≤ r ∧ s ∣ r ∧ 2 * l < 2 * r + s ∧ (r = 0 ∨ 2 * r - s ≤ 2 * l)
theorem rd_is {l s : Int32} (hs : 1 ≤ s.toInt) (hs2 : s.toInt ≤ 1000) (h1 : -536870912 ≤ l.toInt) (h2 : l.toInt ≤ 536870912) : tk_isRd l.toInt s.toInt (tk_rd l s).toInt := by
  have e1 : (2 * l).toInt = 2 * l.toInt := by rw [tmul (by rw [tI2]; omega) (by rw [tI2]; omega), tI2]
  have e2 : (2 * l + s).toInt = 2 * l.toInt + s.toInt := by rw [tadd (by rw [e1]; omega) (by rw [e1]; omega), e1]
  have e3 : (2 * s).toInt = 2 * s.toInt := by rw [tmul (by rw [tI2]; omega) (by rw [tI2]; omega), tI2]
  have e4 := fl_toInt (a := 2 * l + s) (b := 2 * s) (by rw [e3]; omega) (by rw [e2]; omega)
  rw [e2, e3] at e4
  obtain ⟨b1, b2⟩ := (Int.ediv_eq_iff_of_pos (k := 2 * s.toInt) (by omega)).mp e4.symm
  have b3 : (tk_fl (2 * l + s) (2 * s)).toInt * (2 * s.toInt) = 2 * ((tk_fl (2 * l + s) (2 * s)).toInt * s.toInt) := by rw [← Int.mul_assoc, Int.mul_comm _ 2, Int.mul_assoc]
  rw [b3] at b1 b2
  unfold tk_rd
  by_cases hc : tk_fl (2 * l + s) (2 * s) < 0
  · rw [if_pos hc, tI0]
    rw [Int32.lt_iff_toInt_lt, tI0] at hc
    have : (tk_fl (2 * l + s) (2 * s)).toInt * s.toInt ≤ -1 * s.toInt := Int.mul_le_mul_of_nonneg_right (by omega) (by omega)
    exact ⟨by omega, ⟨0, by omega⟩, by omega, Or.inl rfl⟩
  · rw [if_neg hc]
    rw [Int32.lt_iff_toInt_lt, tI0] at hc
    have h0 : 0 ≤ (tk_fl (2 * l + s) (2 * s)).toInt * s.toInt := Int.mul_nonneg (by omega) (by omega)
    rw [tmul (by omega) (by omega)]
    exact ⟨h0, ⟨_, Int.mul_comm _ _⟩, by omega, Or.inr (by omega)⟩
theorem rd_uniq {l s r r' : Int} (hs : 1 ≤ s) (h : tk_isRd l s r) (h' : tk_isRd l s r') : r = r' := by
  obtain ⟨a0, ⟨x, ax⟩, a1, a2⟩ := h
  obtain ⟨b0, ⟨y, bx⟩, b1, b2⟩ := h'
  have hx : x = y := by
    apply Classical.byContradiction
    intro q
    rcases Int.lt_or_gt_of_ne q with z | z
    · have : s * (x + 1) ≤ s * y := Int.mul_le_mul_of_nonneg_left (by omega) (by omega)
      rw [Int.mul_add] at this
      omega
    · have : s * (y + 1) ≤ s * x := Int.mul_le_mul_of_nonneg_left (by omega) (by omega)
      rw [Int.mul_add] at this
      omega
  rw [ax, bx, hx]
section RD
variable {B : Nat} {d : Nat → Int32}
theorem hi_t (h : tk_ok B d) {r : Int32} (h0 : 0 ≤ r.toInt) (h1 : r.toInt ≤ 3000000) : (tk_hi d r).toInt = (2 * r.toInt + (d 8).toInt - 1) / 2 := by
  have hs := h.2.1
  have e1 : (2 * r).toInt = 2 * r.toInt := by rw [tmul (by rw [tI2]; omega) (by rw [tI2]; omega), tI2]
  have e2 : (2 * r + d 8).toInt = 2 * r.toInt + (d 8).toInt := by rw [tadd (by rw [e1]; omega) (by rw [e1]; omega), e1]
  have e3 : (2 * r + d 8 - 1).toInt = 2 * r.toInt + (d 8).toInt - 1 := by rw [tsub (by rw [e2, tI1]; omega) (by rw [e2, tI1]; omega), e2, tI1]
  unfold tk_hi
  rw [fl_toInt (by rw [tI2]; decide) (by rw [e3]; omega), e3, tI2]
theorem tIm9 : (-9000000 : Int32).toInt = -9000000 := by decide
theorem lo_t (h : tk_ok B d) {r : Int32} (h0 : 0 ≤ r.toInt) (h1 : r.toInt ≤ 3000000) : (tk_lo d r).toInt = if r.toInt = 0 then -9000000 else (2 * r.toInt - (d 8).toInt + 1) / 2 := by
  have hs := h.2.1
  have e1 : (2 * r).toInt = 2 * r.toInt := by rw [tmul (by rw [tI2]; omega) (by rw [tI2]; omega), tI2]
  have e2 : (2 * r - d 8).toInt = 2 * r.toInt - (d 8).toInt := by rw [tsub (by rw [e1]; omega) (by rw [e1]; omega), e1]
  have e3 : (2 * r - d 8 + 1).toInt = 2 * r.toInt - (d 8).toInt + 1 := by rw [tadd (by rw [e2, tI1]; omega) (by rw [e2, tI1]; omega), e2, tI1]
  unfold tk_lo
  by_cases hr : r = 0
  · rw [if_pos hr, if_pos (by rw [hr, tI0]), tIm9]
  · rw [if_neg hr, if_neg (fun q => hr (Int32.toInt_inj.mp (by rw [q, tI0]))), fl_toInt (by rw [tI2]; decide) (by rw [e3]; omega), e3, tI2]
theorem heavy_t (h : tk_ok B d) {k : Nat} (hk : k < 4) : (d k + d (4 + k)).toInt = (d k).toInt + (d (4 + k)).toInt := by
  have := h.1 k hk
  exact tadd (by omega) (by omega)
theorem light_t (h : tk_ok B d) {k : Nat} (hk : k < 4) : (d k - d (4 + k)).toInt = (d k).toInt - (d (4 + k)).toInt := by
  have := h.1 k hk
  exact tsub (by omega) (by omega)
/-- the least and the greatest count, as whole numbers -/
theorem le_t (h : tk_ok B d) {r : Int32} {k : Nat} (hk : k < 4) (h0 : 0 ≤ r.toInt) (h1 : r.toInt ≤ 3000000) :
    (tk_le d r k).toInt = if (tk_lo d r).toInt - (d 9).toInt ≤ 0 then 0 else ((tk_lo d r).toInt - (d 9).toInt + ((d k).toInt + (d (4 + k)).toInt) - 1) / ((d k).toInt + (d (4 + k)).toInt) := by
  have hs := h.2.1
  have hw := h.1 k hk
  have h9 := h.2.2.1
  have hl := lo_t h h0 h1
  have hb : -9000000 ≤ (tk_lo d r).toInt ∧ (tk_lo d r).toInt ≤ 3000000 := by rw [hl]; split <;> omega
  have e1 : (tk_lo d r - d 9).toInt = (tk_lo d r).toInt - (d 9).toInt := tsub (by omega) (by omega)
  have eh := heavy_t h hk
  unfold tk_le
  by_cases hc : tk_lo d r - d 9 ≤ 0
  · rw [if_pos hc, tI0]
    rw [Int32.le_iff_toInt_le, e1, tI0] at hc
    rw [if_pos hc]
  · rw [if_neg hc]
    rw [Int32.le_iff_toInt_le, e1, tI0] at hc
    rw [if_neg hc]
    have e2 : (tk_lo d r - d 9 + (d k + d (4 + k))).toInt = (tk_lo d r).toInt - (d 9).toInt + ((d k).toInt + (d (4 + k)).toInt) := by rw [tadd (by rw [e1, eh]; omega) (by rw [e1, eh]; omega), e1, eh]
    have e3 : (tk_lo d r - d 9 + (d k + d (4 + k)) - 1).toInt = (tk_lo d r).toInt - (d 9).toInt + ((d k).toInt + (d (4 + k)).toInt) - 1 := by rw [tsub (by rw [e2, tI1]; omega) (by rw [e2, tI1]; omega), e2, tI1]
    rw [tdv (by rw [eh]; omega), e3, eh, Int.tdiv_eq_ediv_of_nonneg (by omega)]
theorem gr_t (h : tk_ok B d) {r : Int32} {k : Nat} (hk : k < 4) (h0 : 0 ≤ r.toInt) (h1 : r.toInt ≤ 3000000) :
    (tk_gr d r k).toInt = ((tk_hi d r).toInt + (d 9).toInt) / ((d k).toInt - (d (4 + k)).toInt) := by
  have hs := h.2.1
  have hw := h.1 k hk
  have h9 := h.2.2.1
  have hl := hi_t h h0 h1
  have e1 : (tk_hi d r + d 9).toInt = (tk_hi d r).toInt + (d 9).toInt := tadd (by omega) (by omega)
  have eh := light_t h hk
  unfold tk_gr
  rw [tdv (by rw [eh]; omega), e1, eh, Int.tdiv_eq_ediv_of_nonneg (by omega)]
/-- what a reading of a load allows: n lies within, if the load can be that of n -/
theorem al_in (h : tk_ok B d) {r : Int32} {k : Nat} {l n : Int} (hk : k < 4) (h1 : r.toInt ≤ 3000000) (hr : tk_isRd l (d 8).toInt r.toInt) (hn : 0 ≤ n) (ha : l - (d 9).toInt ≤ n * ((d k).toInt + (d (4 + k)).toInt)) (hb : n * ((d k).toInt - (d (4 + k)).toInt) ≤ l + (d 9).toInt) :
    (tk_le d r k).toInt ≤ n ∧ n ≤ (tk_gr d r k).toInt ∧ tk_al d r k = true := by
  have h0 : 0 ≤ r.toInt := hr.1
  have hs := h.2.1
  have hw := h.1 k hk
  have h9 := h.2.2.1
  have a1 : (tk_le d r k).toInt ≤ n := by
    rw [le_t h hk h0 h1]
    split
    · exact hn
    · rename_i q
      rw [lo_t h h0 h1] at q ⊢
      obtain ⟨-, -, -, h5⟩ := hr
      by_cases hz : r.toInt = 0
      · rw [if_pos hz] at q
        omega
      · rw [if_neg hz] at q ⊢
        rw [Int.ediv_le_iff_le_mul (by omega)]
        omega
  have a2 : n ≤ (tk_gr d r k).toInt := by
    rw [gr_t h hk h0 h1, hi_t h h0 h1, Int.le_ediv_iff_mul_le (by omega)]
    have := hr.2.2.1
    omega
  refine ⟨a1, a2, ?_⟩
  simp only [tk_al, tk_mu, Bool.and_eq_true, decide_eq_true_eq]
  refine ⟨Int32.toInt_inj.mp ?_, by rw [Int32.le_iff_toInt_le]; omega⟩
  rw [trm (by omega), tI0]
  exact Int.tmod_eq_zero_of_dvd hr.2.1
theorem le_0 (h : tk_ok B d) {r : Int32} {k : Nat} (hk : k < 4) (h0 : 0 ≤ r.toInt) (h1 : r.toInt ≤ 3000000) : 0 ≤ (tk_le d r k).toInt := by
  have hw := h.1 k hk
  rw [le_t h hk h0 h1]
  split
  · exact Int.le_refl 0
  · exact Int.ediv_nonneg (by omega) (by omega)
theorem gr_b (h : tk_ok B d) {r : Int32} {k : Nat} (hk : k < 4) (h0 : 0 ≤ r.toInt) (h1 : r.toInt ≤ 3000000) : 0 ≤ (tk_gr d r k).toInt ∧ 50 * (tk_gr d r k).toInt ≤ r.toInt + 2500 := by
  have hw := h.1 k hk
  have hs := h.2.1
  have h9 := h.2.2.1
  have hg := gr_t h hk h0 h1
  have hh := hi_t h h0 h1
  have h2 : 0 ≤ (tk_gr d r k).toInt := by rw [hg]; exact Int.ediv_nonneg (by omega) (by omega)
  refine ⟨h2, ?_⟩
  have h3 : (tk_gr d r k).toInt * ((d k).toInt - (d (4 + k)).toInt) ≤ (tk_hi d r).toInt + (d 9).toInt := (Int.le_ediv_iff_mul_le (by omega)).mp (by rw [hg]; exact Int.le_refl _)
  have h4 : (tk_gr d r k).toInt * 50 ≤ (tk_gr d r k).toInt * ((d k).toInt - (d (4 + k)).toInt) := Int.mul_le_mul_of_nonneg_left (by omega) h2
  omega
/-- a guess lies between the two -/
theorem gu_in (h : tk_ok B d) {r u : Int32} {k : Nat} (hk : k < 4) (h0 : 0 ≤ r.toInt) (h1 : r.toInt ≤ 3000000) (ha : tk_al d r k = true) : (tk_le d r k).toInt ≤ (tk_gu d r k u).toInt ∧ (tk_gu d r k u).toInt ≤ (tk_gr d r k).toInt := by
  have hl0 := le_0 h hk h0 h1
  have hgb := gr_b h hk h0 h1
  have hle : (tk_le d r k).toInt ≤ (tk_gr d r k).toInt := by
    simp only [tk_al, Bool.and_eq_true, decide_eq_true_eq, Int32.le_iff_toInt_le] at ha
    exact ha.2
  unfold tk_gu
  rw [if_neg (by rw [ha]; decide)]
  split
  · exact ⟨Int.le_refl _, hle⟩
  · split
    · exact ⟨hle, Int.le_refl _⟩
    · split
      · have e : (tk_le d r k + tk_gr d r k).toInt = (tk_le d r k).toInt + (tk_gr d r k).toInt := tadd (by omega) (by omega)
        rw [tdv (by rw [tI2]; decide), e, tI2, Int.tdiv_eq_ediv_of_nonneg (by omega)]
        omega
      · split
        · exact ⟨Int.le_refl _, hle⟩
        · split
          · exact ⟨hle, Int.le_refl _⟩
          · rename_i q1 q2
            rw [Int32.lt_iff_toInt_lt] at q1 q2
            omega
/-- a weighing: its reading, its guess -/
theorem weigh_b (h : tk_ok B d) {n v : Int32} {k : Nat} (hk : k < 4) (hn : tk_in n 1 500 = true) (hv : tk_in v (-n * d (4 + k)) (n * d (4 + k)) = true) (u : Int32) :
    tk_isRd (n.toInt * (d k).toInt + v.toInt + (d 10).toInt) (d 8).toInt (tk_rd (n * d k + v + d 10) (d 8)).toInt ∧ (tk_rd (n * d k + v + d 10) (d 8)).toInt ≤ 3000000 ∧ tk_al d (tk_rd (n * d k + v + d 10) (d 8)) k = true ∧
    0 ≤ (tk_gu d (tk_rd (n * d k + v + d 10) (d 8)) k u).toInt ∧ (tk_gu d (tk_rd (n * d k + v + d 10) (d 8)) k u).toInt ≤ 60000 ∧ (n * d k + v + d 10).toInt = n.toInt * (d k).toInt + v.toInt + (d 10).toInt := by
  have hn := tk_inI hn
  have hv := tk_inI hv
  have hw := h.1 k hk
  have hs := h.2.1
  have h9 := h.2.2.1
  have h10 := h.2.2.2.1
  have e500 : (500 : Int32).toInt = 500 := by decide
  rw [tI1, e500] at hn
  have p1 : 0 ≤ n.toInt * (d k).toInt := Int.mul_nonneg (by omega) (by omega)
  have p2 : n.toInt * (d k).toInt ≤ 500 * 5000 := Int.mul_le_mul (by omega) (by omega) (by omega) (by omega)
  have p3 : 0 ≤ n.toInt * (d (4 + k)).toInt := Int.mul_nonneg (by omega) (by omega)
  have p4 : n.toInt * (d (4 + k)).toInt ≤ 500 * 50 := Int.mul_le_mul (by omega) (by omega) (by omega) (by omega)
  have e1 : (n * d (4 + k)).toInt = n.toInt * (d (4 + k)).toInt := tmul (by omega) (by omega)
  have e2 : (-n * d (4 + k)).toInt = -(n.toInt * (d (4 + k)).toInt) := by
    have q : (-n).toInt = -n.toInt := tneg (by omega)
    rw [tmul (by rw [q, Int.neg_mul]; omega) (by rw [q, Int.neg_mul]; omega), q, Int.neg_mul]
  rw [e1, e2] at hv
  have e3 : (n * d k).toInt = n.toInt * (d k).toInt := tmul (by omega) (by omega)
  have e4 : (n * d k + v).toInt = n.toInt * (d k).toInt + v.toInt := by rw [tadd (by rw [e3]; omega) (by rw [e3]; omega), e3]
  have e5 : (n * d k + v + d 10).toInt = n.toInt * (d k).toInt + v.toInt + (d 10).toInt := by rw [tadd (by rw [e4]; omega) (by rw [e4]; omega), e4]
  have hR := rd_is (l := n * d k + v + d 10) (s := d 8) hs.1 hs.2 (by rw [e5]; omega) (by rw [e5]; omega)
  rw [e5] at hR
  have hb : (tk_rd (n * d k + v + d 10) (d 8)).toInt ≤ 2800000 := by
    rcases hR.2.2.2 with q | q
    · omega
    · omega
  have hA := al_in h hk (by omega) hR (n := n.toInt) (by omega) (by rw [Int.mul_add]; omega) (by rw [Int.mul_sub]; omega)
  have hG := gu_in h hk hR.1 (by omega) hA.2.2 (u := u)
  have hL := le_0 h hk hR.1 (by omega)
  have hgb := gr_b h hk hR.1 (by omega)
  exact ⟨hR, by omega, hA.2.2, by omega, by omega, e5⟩
end RD
