/-! one customer is changed, one prize is changed -/
section CRB
variable {D : va_G} {cA : Nat → ClassId} {Z : Nat → Nat} {H H1 : Heap} {ad ad' : Nat → Nat} {f g : Nat → Int32} {n p : Nat} {mo : Nat → Int32} {s : State}
theorem CR.ne1 (hK : va_K D vwCl (tysG cA) s) (h : CR D cA Z H ad f n p mo) {i : Nat} (hi : i < n) : ad (10 + i) ≠ ad 0 := at_ne (h.cus i hi) h.obj (K_cc hK (i := 4) (j := 2) rfl rfl (by decide))
theorem CR.ne2 (hK : va_K D vwCl (tysG cA) s) (h : CR D cA Z H ad f n p mo) {i : Nat} (hi : i < p) : ad (20 + i) ≠ ad 0 := at_ne (h.pri i hi) h.obj (K_cc hK (i := 5) (j := 2) rfl rfl (by decide))
theorem CR.ne3 (hK : va_K D vwCl (tysG cA) s) (h : CR D cA Z H ad f n p mo) {i j : Nat} (hi : i < n) (hj : j < p) : ad (10 + i) ≠ ad (20 + j) := at_ne (h.cus i hi) (h.pri j hj) (K_cc hK (i := 4) (j := 5) rfl rfl (by decide))
theorem CR.ne4 (hK : va_K D vwCl (tysG cA) s) (h : CR D cA Z H ad f n p mo) {i : Nat} (hi : i < n) (hz : ¬ f (16 + 6 * i + 1) = 0) : ad (30 + i) ≠ ad 0 ∧ (∀ j, j < n → ad (30 + i) ≠ ad (10 + j)) ∧ (∀ j, j < p → ad (30 + i) ≠ ad (20 + j)) :=
  ⟨at_ne (h.kep i hi hz) h.obj (K_cc hK (i := 7) (j := 2) rfl rfl (by decide)), fun j hj => at_ne (h.kep i hi hz) (h.cus j hj) (K_cc hK (i := 7) (j := 4) rfl rfl (by decide)), fun j hj => at_ne (h.kep i hi hz) (h.pri j hj) (K_cc hK (i := 7) (j := 5) rfl rfl (by decide))⟩
/-- a customer that isn't changed -/
theorem CR.cusK (h : CR D cA Z H ad f n p mo) {i : Nat} (hi : i < n) (e : H1[ad (10 + i)]? = H[ad (10 + i)]?) (g0 : g (16 + 6 * i) = f (16 + 6 * i)) (g1 : g (16 + 6 * i + 1) = f (16 + 6 * i + 1)) (ha : ad' (30 + i) = ad (30 + i)) : va_at D vwCl (ad (10 + i), .inr (4, [.int (g (16 + 6 * i)), va_rf (kq ad' g i)])) H1 := by
  have z := (h.cus i hi).kept e
  unfold kq at z ⊢
  rw [g0, g1, ha]
  exact z
theorem CR.kepK (h : CR D cA Z H ad f n p mo) {i : Nat} (hi : i < n) (e : ¬ f (16 + 6 * i + 1) = 0 → H1[ad (30 + i)]? = H[ad (30 + i)]?) (hg : ∀ q, 1 ≤ q → q < 6 → g (16 + 6 * i + q) = f (16 + 6 * i + q)) (ha : ad' (30 + i) = ad (30 + i)) (hz : ¬ g (16 + 6 * i + 1) = 0) : va_at D vwCl (ad' (30 + i), .inr (7, [.int (g (16 + 6 * i + 2)), .int (g (16 + 6 * i + 3)), .int (g (16 + 6 * i + 4)), .int (g (16 + 6 * i + 5))])) H1 := by
  rw [hg 1 (by decide) (by decide)] at hz
  have z := (h.kep i hi hz).kept (e hz)
  rw [hg 2 (by decide) (by decide), hg 3 (by decide) (by decide), hg 4 (by decide) (by decide), hg 5 (by decide) (by decide), ha]
  exact z
theorem CR.priK (h : CR D cA Z H ad f n p mo) {i : Nat} (hi : i < p) (e : H1[ad (20 + i)]? = H[ad (20 + i)]?) (g0 : g (52 + 7 * i) = f (52 + 7 * i)) (hg : ∀ q, 1 ≤ q → q < 7 → g (52 + 7 * i + q) = f (52 + 7 * i + q)) : va_at D vwCl (ad (20 + i), .inr (5, [.int (g (52 + 7 * i)), .int (g (52 + 7 * i + 1)), .int (g (52 + 7 * i + 2)), .int (g (52 + 7 * i + 3)), .int (g (52 + 7 * i + 4)), .int (g (52 + 7 * i + 5)), .int (g (52 + 7 * i + 6))])) H1 := by
  have z := (h.pri i hi).kept e
  rw [g0, hg 1 (by decide) (by decide), hg 2 (by decide) (by decide), hg 3 (by decide) (by decide), hg 4 (by decide) (by decide), hg 5 (by decide) (by decide), hg 6 (by decide) (by decide)]
  exact z
theorem CR.objK (h : CR D cA Z H ad f n p mo) (e : H1[ad 0]? = H[ad 0]?) (hg : ∀ q, 8 ≤ q → q ≤ 13 → g q = f q) : va_at D vwCl (ad 0, .inr (2, [.ref (ad 1), .ref (ad 2), .int (g 8), .int (g 9), .int (g 10), .int (g 11), .int (g 12), .int (g 13), .ref (ad 3), .ref (ad 5)])) H1 := by
  have z := h.obj.kept e
  rw [hg 8 (by decide) (by decide), hg 9 (by decide) (by decide), hg 10 (by decide) (by decide), hg 11 (by decide) (by decide), hg 12 (by decide) (by decide), hg 13 (by decide) (by decide)]
  exact z
/-- its numbers and one customer -/
theorem CR.actC (hK : va_K D vwCl (tysG cA) s) (h : CR D cA Z H ad f n p mo) {j : Nat} (hj : j < n) (hfr : hC (fun q => q = ad 0 ∨ q = ad (10 + j) ∨ H.size ≤ q) H H1) (had : ∀ i, i ≠ 30 + j → ad' i = ad i)
    (hg : ∀ i, ¬ (8 ≤ i ∧ i ≤ 13) → ¬ (16 + 6 * j ≤ i ∧ i < 22 + 6 * j) → g i = f i)
    (hobj : va_at D vwCl (ad 0, .inr (2, [.ref (ad 1), .ref (ad 2), .int (g 8), .int (g 9), .int (g 10), .int (g 11), .int (g 12), .int (g 13), .ref (ad 3), .ref (ad 5)])) H1)
    (hcus : va_at D vwCl (ad (10 + j), .inr (4, [.int (g (16 + 6 * j)), va_rf (kq ad' g j)])) H1)
    (hkep : ¬ g (16 + 6 * j + 1) = 0 → va_at D vwCl (ad' (30 + j), .inr (7, [.int (g (16 + 6 * j + 2)), .int (g (16 + 6 * j + 3)), .int (g (16 + 6 * j + 4)), .int (g (16 + 6 * j + 5))])) H1) : CR D cA Z H1 ad' g n p mo := by
  have n6 := h.n6
  have p6 := h.p6
  have sm : ∀ q, q < H.size → q ≠ ad 0 → q ≠ ad (10 + j) → H1[q]? = H[q]? := fun q hq a b => hfr.2 q hq (fun z => by
    rcases z with z | z | z
    · exact a z
    · exact b z
    · omega)
  refine h.act hK (fun q hq h0 h1 _ => sm q hq h0 (h1 j hj)) (fun i hi => had i (by omega)) (fun i hi => hg i (by omega) (by omega)) (hg 14 (by omega) (by omega)) (hg 15 (by omega) (by omega)) hobj (fun i hi => ?_) (fun i hi hz => ?_) (fun i hi => ?_)
  · by_cases e : i = j
    · subst e; exact hcus
    · exact h.cusK hi (sm _ (at_lt (h.cus i hi)) (h.ne1 hK hi) (fun q => e (h.ik i j hi hj q))) (hg _ (by omega) (by omega)) (hg _ (by omega) (by omega)) (had _ (by omega))
  · by_cases e : i = j
    · subst e; exact hkep hz
    · exact h.kepK hi (fun w => sm _ (at_lt (h.kep i hi w)) (h.ne4 hK hi w).1 ((h.ne4 hK hi w).2.1 j hj)) (fun q _ _ => hg _ (by omega) (by omega)) (had _ (by omega)) hz
  · exact h.priK hi (sm _ (at_lt (h.pri i hi)) (h.ne2 hK hi) (Ne.symm (h.ne3 hK hj hi))) (hg _ (by omega) (by omega)) (fun q _ _ => hg _ (by omega) (by omega))
/-- one customer's points and one prize -/
theorem CR.actB (hK : va_K D vwCl (tysG cA) s) (h : CR D cA Z H ad f n p mo) {k : Nat} (hk : k < p) (W : Nat → Prop) (hW : ∀ q, W q → q = ad (20 + k) ∨ ∃ j, j < n ∧ q = ad (10 + j)) (hfr : hC W H H1)
    (hg : ∀ i, ¬ (52 + 7 * k ≤ i ∧ i < 59 + 7 * k) → (∀ j, j < n → i ≠ 16 + 6 * j) → g i = f i)
    (hcus : ∀ j, j < n → va_at D vwCl (ad (10 + j), .inr (4, [.int (g (16 + 6 * j)), va_rf (kq ad g j)])) H1)
    (hpri : va_at D vwCl (ad (20 + k), .inr (5, [.int (g (52 + 7 * k)), .int (g (52 + 7 * k + 1)), .int (g (52 + 7 * k + 2)), .int (g (52 + 7 * k + 3)), .int (g (52 + 7 * k + 4)), .int (g (52 + 7 * k + 5)), .int (g (52 + 7 * k + 6))])) H1) : CR D cA Z H1 ad g n p mo := by
  have n6 := h.n6
  have p6 := h.p6
  have sm : ∀ q, q < H.size → q ≠ ad (20 + k) → (∀ j, j < n → q ≠ ad (10 + j)) → H1[q]? = H[q]? := fun q hq a b => hfr.2 q hq (fun z => by
    rcases hW q z with z | ⟨j, hj, z⟩
    · exact a z
    · exact b j hj z)
  refine h.act hK (fun q hq _ h1 h2 => sm q hq (h2 k hk) h1) (fun _ _ => rfl) (fun i hi => hg i (by omega) (fun j hj => by omega)) (hg 14 (by omega) (fun j hj => by omega)) (hg 15 (by omega) (fun j hj => by omega))
    (h.objK (sm _ (at_lt h.obj) (Ne.symm (h.ne2 hK hk)) (fun j hj => Ne.symm (h.ne1 hK hj))) (fun q _ _ => hg q (by omega) (fun j hj => by omega))) hcus (fun i hi hz => ?_) (fun i hi => ?_)
  · exact h.kepK hi (fun w => sm _ (at_lt (h.kep i hi w)) ((h.ne4 hK hi w).2.2 k hk) (fun j hj => (h.ne4 hK hi w).2.1 j hj)) (fun q _ _ => hg _ (by omega) (fun j hj => by omega)) rfl hz
  · by_cases e : i = k
    · subst e; exact hpri
    · exact h.priK hi (sm _ (at_lt (h.pri i hi)) (fun q => e (h.ip i k hi hk q)) (fun j hj => Ne.symm (h.ne3 hK hj hi))) (hg _ (by omega) (fun j hj => by omega)) (fun q _ _ => hg _ (by omega) (fun j hj => by omega))
theorem buyC (hK : va_K D vwCl (tysG cA) s) (h : CR D cA Z H ad f n p mo) {j k : Nat} {x : Int32} (hj : j < n) (hk : k < p) (hfr : hC (fun q => j < n ∧ q = ad (10 + j) ∨ k < p ∧ q = ad (20 + k)) H H1)
    (hcus : va_at D vwCl (ad (10 + j), .inr (4, [.int (f (16 + 6 * j) - x * f (52 + 7 * k)), va_rf (kq ad f j)])) H1)
    (hpri : va_at D vwCl (ad (20 + k), .inr (5, [.int (f (52 + 7 * k)), .int (f (52 + 7 * k + 1)), .int (tk_stk (f (52 + 7 * k + 2) - x) ((f (52 + 7 * k + 5) + x * f (52 + 7 * k + 1)) / f (52 + 7 * k + 3)) (f (52 + 7 * k + 4) / f (52 + 7 * k + 1))), .int (f (52 + 7 * k + 3)), .int (f (52 + 7 * k + 4)),
      .int (f (52 + 7 * k + 5) + x * f (52 + 7 * k + 1) - (f (52 + 7 * k + 5) + x * f (52 + 7 * k + 1)) / f (52 + 7 * k + 3) * f (52 + 7 * k + 3)), .int (f (52 + 7 * k + 6) + (f (52 + 7 * k + 5) + x * f (52 + 7 * k + 1)) / f (52 + 7 * k + 3))])) H1) : CR D cA Z H1 ad (tk_buyW f j k x) n p mo := by
  have n6 := h.n6
  have p6 := h.p6
  have gv : ∀ i, i ≠ 16 + 6 * j → i ≠ 52 + 7 * k + 5 → i ≠ 52 + 7 * k + 2 → i ≠ 52 + 7 * k + 6 → tk_buyW f j k x i = f i := fun i a b c d => by
    simp only [tk_buyW, upd]
    rw [if_neg d, if_neg c, if_neg b, if_neg a]
  have g0 : tk_buyW f j k x (16 + 6 * j) = f (16 + 6 * j) - x * f (52 + 7 * k) := by
    simp only [tk_buyW, upd]
    rw [if_neg (by omega), if_neg (by omega), if_neg (by omega), if_pos trivial]
  refine h.actB hK hk _ (fun q hq => ?_) hfr (fun i a b => gv i (b j hj) (by omega) (by omega) (by omega)) (fun i hi => ?_) ?_
  · rcases hq with hq | hq
    · exact Or.inr ⟨j, hj, hq.2⟩
    · exact Or.inl hq.2
  · by_cases e : i = j
    · subst e
      unfold kq at hcus ⊢
      rw [g0, gv _ (by omega) (by omega) (by omega) (by omega)]
      exact hcus
    · refine h.cusK hi (hfr.2 _ (at_lt (h.cus i hi)) (fun z => ?_)) (gv _ (by omega) (by omega) (by omega) (by omega)) (gv _ (by omega) (by omega) (by omega) (by omega)) rfl
      rcases z with z | z
      · exact e (h.ik i j hi hj z.2)
      · exact h.ne3 hK hi hk z.2
  · rw [gv _ (by omega) (by omega) (by omega) (by omega), gv (52 + 7 * k + 1) (by omega) (by omega) (by omega) (by omega), gv (52 + 7 * k + 3) (by omega) (by omega) (by omega) (by omega), gv (52 + 7 * k + 4) (by omega) (by omega) (by omega) (by omega)]
    have g2 : tk_buyW f j k x (52 + 7 * k + 2) = tk_stk (f (52 + 7 * k + 2) - x) ((f (52 + 7 * k + 5) + x * f (52 + 7 * k + 1)) / f (52 + 7 * k + 3)) (f (52 + 7 * k + 4) / f (52 + 7 * k + 1)) := by
      simp only [tk_buyW, upd]
      rw [if_neg (by omega), if_pos trivial]
    have g5 : tk_buyW f j k x (52 + 7 * k + 5) = f (52 + 7 * k + 5) + x * f (52 + 7 * k + 1) - (f (52 + 7 * k + 5) + x * f (52 + 7 * k + 1)) / f (52 + 7 * k + 3) * f (52 + 7 * k + 3) := by
      simp only [tk_buyW, upd]
      rw [if_neg (by omega), if_neg (by omega), if_pos trivial]
    have g6 : tk_buyW f j k x (52 + 7 * k + 6) = f (52 + 7 * k + 6) + (f (52 + 7 * k + 5) + x * f (52 + 7 * k + 1)) / f (52 + 7 * k + 3) := by
      simp only [tk_buyW, upd]
      rw [if_pos trivial]
    rw [g2, g5, g6]
    exact hpri
end CRB
theorem weigh_l {B : Nat} {d : Nat → Int32} (h : tk_ok B d) {n v : Int32} {k : Nat} (hk : k < 4) (hn : tk_in n 1 500 = true) (hv : tk_in v (-n * d (4 + k)) (n * d (4 + k)) = true) : -536870912 ≤ (n * d k + v + d 10).toInt ∧ (n * d k + v + d 10).toInt ≤ 536870912 := by
  have hb := weigh_b h hk hn hv 0
  have hn := tk_inI hn
  have hv := tk_inI hv
  have hw := h.1 k hk
  have h9 := h.2.2.1
  have h10 := h.2.2.2.1
  have e500 : (500 : Int32).toInt = 500 := by decide
  rw [tI1, e500] at hn
  have p1 : 0 ≤ n.toInt * (d k).toInt := Int.mul_nonneg (by omega) (by omega)
  have p2 : n.toInt * (d k).toInt ≤ 500 * 5000 := Int.mul_le_mul (by omega) (by omega) (by omega) (by omega)
  have p3 : 0 ≤ n.toInt * (d (4 + k)).toInt := Int.mul_nonneg (by omega) (by omega)
  have p4 : n.toInt * (d (4 + k)).toInt ≤ 500 * 50 := Int.mul_le_mul (by omega) (by omega) (by omega) (by omega)
  have e1 : (n * d (4 + k)).toInt = n.toInt * (d (4 + k)).toInt := tmul (by omega) (by omega)
  have e2 : (-n * d (4 + k)).toInt = -(n.toInt * (d (4 + k)).toInt) := by
    have q : (-n).toInt = -n.toInt := tneg (by omega)
    rw [tmul (by rw [q, Int.neg_mul]; omega) (by rw [q, Int.neg_mul]; omega), q, Int.neg_mul]
  rw [e1, e2] at hv
  rw [hb.2.2.2.2.2]
  omega
theorem p_more {p g : Int32} (h0 : 0 ≤ p.toInt) (h1 : p.toInt ≤ 2000000000) (g0 : 0 ≤ g.toInt) (g1 : g.toInt ≤ 60000) : jmax 0 (p + g) = p + g := by
  refine Int32.toInt_inj.mp ?_
  have e : (p + g).toInt = p.toInt + g.toInt := tadd (by omega) (by omega)
  rw [jmax_t, e, tI0]
  omega
theorem ok_pts {B : Nat} {f : Nat → Int32} (h : tk_ok B f) {n j : Nat} (hn : f 14 = nI n) (h6 : n ≤ 6) (hj : j < n) : 0 ≤ (f (16 + 6 * j)).toInt ∧ (f (16 + 6 * j)).toInt ≤ B := by
  have h14 : (f 14).toInt = (n : Int) := by rw [hn, nI_toInt (by omega)]
  obtain ⟨a, b, -⟩ := h.2.2.2.2.2.2.2.2.1 j (by omega)
  exact ⟨a, b⟩
theorem ok_rul {B : Nat} {f : Nat → Int32} (h : tk_ok B f) : f 11 = nI (f 11).toNatClampNeg ∧ (f 11).toNatClampNeg < 4 := by
  have := h.2.2.2.2.1
  obtain ⟨j, a, b, e⟩ := tk_nIof (x := f 11) (n := 3) (by omega) (by omega)
  have e2 : (f 11).toNatClampNeg = j := by rw [e, nI_clamp (by omega)]
  exact ⟨by rw [e2]; exact e, by omega⟩
theorem weighC {D : va_G} {cA : Nat → ClassId} {Z : Nat → Nat} {H H1 : Heap} {ad : Nat → Nat} {f : Nat → Int32} {n p : Nat} {mo : Nat → Int32} {s : State} (hK : va_K D vwCl (tysG cA) s) (h : CR D cA Z H ad f n p mo) {j q : Nat} {k x r g : Int32} (hj : j < n) (hfr : hC (fun z => z = ad 0 ∨ j < n ∧ z = ad (10 + j) ∨ H.size ≤ z) H H1)
    (hobj : va_at D vwCl (ad 0, .inr (2, [.ref (ad 1), .ref (ad 2), .int (f 8), .int (f 9), .int (f 10), .int (f 11), .int (f 12), .int (f 13 + (g - x)), .ref (ad 3), .ref (ad 5)])) H1)
    (hcus : va_at D vwCl (ad (10 + j), .inr (4, [.int (f (16 + 6 * j) + g), .ref q])) H1) (hkep : va_at D vwCl (q, .inr (7, [.int k, .int x, .int r, .int g])) H1) :
    ∃ ad1 : Nat → Nat, ad1 0 = ad 0 ∧ (∀ i, i < 30 → ad1 i = ad i) ∧ CR D cA Z H1 ad1 (tk_weighW f j k x r g) n p mo := by
  have n6 := h.n6
  have gv : ∀ i, i ≠ 13 → ¬ (16 + 6 * j ≤ i ∧ i < 22 + 6 * j) → tk_weighW f j k x r g i = f i := fun i a b => by
    simp only [tk_weighW, upd]
    rw [if_neg a, if_neg (by omega), if_neg (by omega), if_neg (by omega), if_neg (by omega), if_neg (by omega), if_neg (by omega)]
  have g13 : tk_weighW f j k x r g 13 = f 13 + (g - x) := by
    simp only [tk_weighW, upd]
    rw [if_pos trivial]
  have g0 : tk_weighW f j k x r g (16 + 6 * j) = f (16 + 6 * j) + g := by
    simp only [tk_weighW, upd]
    rw [if_neg (by omega), if_neg (by omega), if_neg (by omega), if_neg (by omega), if_neg (by omega), if_neg (by omega), if_pos trivial]
  have g1 : tk_weighW f j k x r g (16 + 6 * j + 1) = 1 := by
    simp only [tk_weighW, upd]
    rw [if_neg (by omega), if_neg (by omega), if_neg (by omega), if_neg (by omega), if_neg (by omega), if_pos trivial]
  have g2 : tk_weighW f j k x r g (16 + 6 * j + 2) = k := by
    simp only [tk_weighW, upd]
    rw [if_neg (by omega), if_neg (by omega), if_neg (by omega), if_neg (by omega), if_pos trivial]
  have g3 : tk_weighW f j k x r g (16 + 6 * j + 3) = x := by
    simp only [tk_weighW, upd]
    rw [if_neg (by omega), if_neg (by omega), if_neg (by omega), if_pos trivial]
  have g4 : tk_weighW f j k x r g (16 + 6 * j + 4) = r := by
    simp only [tk_weighW, upd]
    rw [if_neg (by omega), if_neg (by omega), if_pos trivial]
  have g5 : tk_weighW f j k x r g (16 + 6 * j + 5) = g := by
    simp only [tk_weighW, upd]
    rw [if_neg (by omega), if_pos trivial]
  refine ⟨fun i => if i = 30 + j then q else ad i, if_neg (by omega), fun i hi => if_neg (by omega), h.actC hK hj (hfr.weak fun z _ hz => ?_) (fun i hi => if_neg hi) (fun i a b => gv i (by omega) b) ?_ ?_ (fun _ => ?_)⟩
  · rcases hz with hz | hz | hz
    · exact Or.inl hz
    · exact Or.inr (Or.inl hz.2)
    · exact Or.inr (Or.inr hz)
  · rw [g13, gv 8 (by omega) (by omega), gv 9 (by omega) (by omega), gv 10 (by omega) (by omega), gv 11 (by omega) (by omega), gv 12 (by omega) (by omega)]
    exact hobj
  · unfold kq
    rw [g0, g1, if_neg (by decide)]
    have e : (if 30 + j = 30 + j then q else ad (30 + j)) = q := if_pos rfl
    show va_at D vwCl (ad (10 + j), .inr (4, [.int (f (16 + 6 * j) + g), va_rf (some (if 30 + j = 30 + j then q else ad (30 + j)))])) H1
    rw [e]
    exact hcus
  · rw [g2, g3, g4, g5, if_pos rfl]
    exact hkep
