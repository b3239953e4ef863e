/-! a counter in the heap, and the array that it answers like -/
def kq (ad : Nat → Nat) (f : Nat → Int32) (i : Nat) : Option Nat := if f (16 + 6 * i + 1) = 0 then none else some (ad (30 + i))
def CR (D : va_G) (cA : Nat → ClassId) (Z : Nat → Nat) (H : Heap) (ad : Nat → Nat) (f : Nat → Int32) (n p : Nat) (mo : Nat → Int32) : Prop :=
  (va_at D vwCl (ad 0, .inr (2, [.ref (ad 1), .ref (ad 2), .int (f 8), .int (f 9), .int (f 10), .int (f 11), .int (f 12), .int (f 13), .ref (ad 3), .ref (ad 5)])) H) ∧
  (va_at D vwCl (ad 1, .inl (cA 0, 4, .inl f)) H) ∧
  (va_at D vwCl (ad 2, .inl (cA 0, 4, .inl (fun j => f (4 + j)))) H) ∧
  (AL D cA Z H (ad 3) (ad 4) (mo 0) n (fun i => ad (10 + i))) ∧
  (AL D cA Z H (ad 5) (ad 6) (mo 1) p (fun i => ad (20 + i))) ∧
  (∀ i, i < n → va_at D vwCl (ad (10 + i), .inr (4, [.int (f (16 + 6 * i)), va_rf (kq ad f i)])) H) ∧
  (∀ i, i < n → ¬ f (16 + 6 * i + 1) = 0 → va_at D vwCl (ad (30 + i), .inr (7, [.int (f (16 + 6 * i + 2)), .int (f (16 + 6 * i + 3)), .int (f (16 + 6 * i + 4)), .int (f (16 + 6 * i + 5))])) H) ∧
  (∀ i, i < p → va_at D vwCl (ad (20 + i), .inr (5, [.int (f (52 + 7 * i)), .int (f (52 + 7 * i + 1)), .int (f (52 + 7 * i + 2)), .int (f (52 + 7 * i + 3)), .int (f (52 + 7 * i + 4)), .int (f (52 + 7 * i + 5)), .int (f (52 + 7 * i + 6))])) H) ∧
  (f 14 = nI n) ∧
  (f 15 = nI p) ∧
  (n ≤ 6) ∧
  (p ≤ 6) ∧
  (ad 1 ≠ ad 2) ∧
  (ad 3 ≠ ad 5) ∧
  (ad 4 = ad 6 → ad 4 = Z 0) ∧
  (∀ i j, i < n → j < n → ad (10 + i) = ad (10 + j) → i = j) ∧
  (∀ i j, i < p → j < p → ad (20 + i) = ad (20 + j) → i = j)
theorem CR.obj {D : va_G} {cA : Nat → ClassId} {Z : Nat → Nat} {H : Heap} {ad : Nat → Nat} {f : Nat → Int32} {n p : Nat} {mo : Nat → Int32} (h : CR D cA Z H ad f n p mo) : va_at D vwCl (ad 0, .inr (2, [.ref (ad 1), .ref (ad 2), .int (f 8), .int (f 9), .int (f 10), .int (f 11), .int (f 12), .int (f 13), .ref (ad 3), .ref (ad 5)])) H := h.1
theorem CR.wei {D : va_G} {cA : Nat → ClassId} {Z : Nat → Nat} {H : Heap} {ad : Nat → Nat} {f : Nat → Int32} {n p : Nat} {mo : Nat → Int32} (h : CR D cA Z H ad f n p mo) : va_at D vwCl (ad 1, .inl (cA 0, 4, .inl f)) H := h.2.1
theorem CR.spr {D : va_G} {cA : Nat → ClassId} {Z : Nat → Nat} {H : Heap} {ad : Nat → Nat} {f : Nat → Int32} {n p : Nat} {mo : Nat → Int32} (h : CR D cA Z H ad f n p mo) : va_at D vwCl (ad 2, .inl (cA 0, 4, .inl (fun j => f (4 + j)))) H := h.2.2.1
theorem CR.cl {D : va_G} {cA : Nat → ClassId} {Z : Nat → Nat} {H : Heap} {ad : Nat → Nat} {f : Nat → Int32} {n p : Nat} {mo : Nat → Int32} (h : CR D cA Z H ad f n p mo) : AL D cA Z H (ad 3) (ad 4) (mo 0) n (fun i => ad (10 + i)) := h.2.2.2.1
theorem CR.pl {D : va_G} {cA : Nat → ClassId} {Z : Nat → Nat} {H : Heap} {ad : Nat → Nat} {f : Nat → Int32} {n p : Nat} {mo : Nat → Int32} (h : CR D cA Z H ad f n p mo) : AL D cA Z H (ad 5) (ad 6) (mo 1) p (fun i => ad (20 + i)) := h.2.2.2.2.1
theorem CR.cus {D : va_G} {cA : Nat → ClassId} {Z : Nat → Nat} {H : Heap} {ad : Nat → Nat} {f : Nat → Int32} {n p : Nat} {mo : Nat → Int32} (h : CR D cA Z H ad f n p mo) : ∀ i, i < n → va_at D vwCl (ad (10 + i), .inr (4, [.int (f (16 + 6 * i)), va_rf (kq ad f i)])) H := h.2.2.2.2.2.1
theorem CR.kep {D : va_G} {cA : Nat → ClassId} {Z : Nat → Nat} {H : Heap} {ad : Nat → Nat} {f : Nat → Int32} {n p : Nat} {mo : Nat → Int32} (h : CR D cA Z H ad f n p mo) : ∀ i, i < n → ¬ f (16 + 6 * i + 1) = 0 → va_at D vwCl (ad (30 + i), .inr (7, [.int (f (16 + 6 * i + 2)), .int (f (16 + 6 * i + 3)), .int (f (16 + 6 * i + 4)), .int (f (16 + 6 * i + 5))])) H := h.2.2.2.2.2.2.1
theorem CR.pri {D : va_G} {cA : Nat → ClassId} {Z : Nat → Nat} {H : Heap} {ad : Nat → Nat} {f : Nat → Int32} {n p : Nat} {mo : Nat → Int32} (h : CR D cA Z H ad f n p mo) : ∀ i, i < p → va_at D vwCl (ad (20 + i), .inr (5, [.int (f (52 + 7 * i)), .int (f (52 + 7 * i + 1)), .int (f (52 + 7 * i + 2)), .int (f (52 + 7 * i + 3)), .int (f (52 + 7 * i + 4)), .int (f (52 + 7 * i + 5)), .int (f (52 + 7 * i + 6))])) H := h.2.2.2.2.2.2.2.1
theorem CR.hn {D : va_G} {cA : Nat → ClassId} {Z : Nat → Nat} {H : Heap} {ad : Nat → Nat} {f : Nat → Int32} {n p : Nat} {mo : Nat → Int32} (h : CR D cA Z H ad f n p mo) : f 14 = nI n := h.2.2.2.2.2.2.2.2.1
theorem CR.hp {D : va_G} {cA : Nat → ClassId} {Z : Nat → Nat} {H : Heap} {ad : Nat → Nat} {f : Nat → Int32} {n p : Nat} {mo : Nat → Int32} (h : CR D cA Z H ad f n p mo) : f 15 = nI p := h.2.2.2.2.2.2.2.2.2.1
theorem CR.n6 {D : va_G} {cA : Nat → ClassId} {Z : Nat → Nat} {H : Heap} {ad : Nat → Nat} {f : Nat → Int32} {n p : Nat} {mo : Nat → Int32} (h : CR D cA Z H ad f n p mo) : n ≤ 6 := h.2.2.2.2.2.2.2.2.2.2.1
theorem CR.p6 {D : va_G} {cA : Nat → ClassId} {Z : Nat → Nat} {H : Heap} {ad : Nat → Nat} {f : Nat → Int32} {n p : Nat} {mo : Nat → Int32} (h : CR D cA Z H ad f n p mo) : p ≤ 6 := h.2.2.2.2.2.2.2.2.2.2.2.1
theorem CR.i12 {D : va_G} {cA : Nat → ClassId} {Z : Nat → Nat} {H : Heap} {ad : Nat → Nat} {f : Nat → Int32} {n p : Nat} {mo : Nat → Int32} (h : CR D cA Z H ad f n p mo) : ad 1 ≠ ad 2 := h.2.2.2.2.2.2.2.2.2.2.2.2.1
theorem CR.i35 {D : va_G} {cA : Nat → ClassId} {Z : Nat → Nat} {H : Heap} {ad : Nat → Nat} {f : Nat → Int32} {n p : Nat} {mo : Nat → Int32} (h : CR D cA Z H ad f n p mo) : ad 3 ≠ ad 5 := h.2.2.2.2.2.2.2.2.2.2.2.2.2.1
theorem CR.i46 {D : va_G} {cA : Nat → ClassId} {Z : Nat → Nat} {H : Heap} {ad : Nat → Nat} {f : Nat → Int32} {n p : Nat} {mo : Nat → Int32} (h : CR D cA Z H ad f n p mo) : ad 4 = ad 6 → ad 4 = Z 0 := h.2.2.2.2.2.2.2.2.2.2.2.2.2.2.1
theorem CR.ik {D : va_G} {cA : Nat → ClassId} {Z : Nat → Nat} {H : Heap} {ad : Nat → Nat} {f : Nat → Int32} {n p : Nat} {mo : Nat → Int32} (h : CR D cA Z H ad f n p mo) : ∀ i j, i < n → j < n → ad (10 + i) = ad (10 + j) → i = j := h.2.2.2.2.2.2.2.2.2.2.2.2.2.2.2.1
theorem CR.ip {D : va_G} {cA : Nat → ClassId} {Z : Nat → Nat} {H : Heap} {ad : Nat → Nat} {f : Nat → Int32} {n p : Nat} {mo : Nat → Int32} (h : CR D cA Z H ad f n p mo) : ∀ i j, i < p → j < p → ad (20 + i) = ad (20 + j) → i = j := h.2.2.2.2.2.2.2.2.2.2.2.2.2.2.2.2
/-- the cells that a counter reaches -/
def CX (ad : Nat → Nat) (Z : Nat → Nat) (f : Nat → Int32) (n p : Nat) (q : Nat) : Prop := q = ad 0 ∨ q = ad 1 ∨ q = ad 2 ∨ q = ad 3 ∨ (q = ad 4 ∧ ad 4 ≠ Z 0) ∨ q = ad 5 ∨ (q = ad 6 ∧ ad 6 ≠ Z 0) ∨ (∃ i, i < n ∧ q = ad (10 + i)) ∨ (∃ i, i < p ∧ q = ad (20 + i)) ∨ ∃ i, i < n ∧ ¬ f (16 + 6 * i + 1) = 0 ∧ q = ad (30 + i)
theorem AL.kept {D : va_G} {cA : Nat → ClassId} {Z : Nat → Nat} {H H1 : Heap} {a ed : Nat} {mo : Int32} {n : Nat} {el : Nat → Nat} (h : AL D cA Z H a ed mo n el) (h1 : H1[a]? = H[a]?) (h2 : ed ≠ Z 0 → H1[ed]? = H[ed]?) : AL D cA Z H1 a ed mo n el := by
  refine ⟨h.1.kept h1, ?_⟩
  rcases h.2 with q | q
  · exact Or.inl q
  · exact Or.inr ⟨q.1, q.2.kept (h2 q.1)⟩
section CRL
variable {D : va_G} {cA : Nat → ClassId} {Z : Nat → Nat} {H H1 : Heap} {ad : Nat → Nat} {f : Nat → Int32} {n p : Nat} {mo : Nat → Int32}
theorem CR.kept (h : CR D cA Z H ad f n p mo) (hk : ∀ q, CX ad Z f n p q → H1[q]? = H[q]?) : CR D cA Z H1 ad f n p mo :=
  ⟨h.obj.kept (hk _ (Or.inl rfl)),
  va_at.kept (q := (ad 1, _)) h.wei (hk _ (Or.inr (Or.inl rfl))),
  va_at.kept (q := (ad 2, _)) h.spr (hk _ (Or.inr (Or.inr (Or.inl rfl)))),
  h.cl.kept (hk _ (Or.inr (Or.inr (Or.inr (Or.inl rfl))))) (fun q => hk _ (Or.inr (Or.inr (Or.inr (Or.inr (Or.inl ⟨rfl, q⟩)))))),
  h.pl.kept (hk _ (Or.inr (Or.inr (Or.inr (Or.inr (Or.inr (Or.inl rfl))))))) (fun q => hk _ (Or.inr (Or.inr (Or.inr (Or.inr (Or.inr (Or.inr (Or.inl ⟨rfl, q⟩)))))))),
  fun i hi => (h.cus i hi).kept (hk _ (Or.inr (Or.inr (Or.inr (Or.inr (Or.inr (Or.inr (Or.inr (Or.inl ⟨i, hi, rfl⟩))))))))),
  fun i hi hg => (h.kep i hi hg).kept (hk _ (Or.inr (Or.inr (Or.inr (Or.inr (Or.inr (Or.inr (Or.inr (Or.inr (Or.inr ⟨i, hi, hg, rfl⟩)))))))))),
  fun i hi => (h.pri i hi).kept (hk _ (Or.inr (Or.inr (Or.inr (Or.inr (Or.inr (Or.inr (Or.inr (Or.inr (Or.inl ⟨i, hi, rfl⟩)))))))))),
  h.hn,
  h.hp,
  h.n6,
  h.p6,
  h.i12,
  h.i35,
  h.i46,
  h.ik,
  h.ip⟩
theorem AL.lt2 {a ed : Nat} {mo : Int32} {n : Nat} {el : Nat → Nat} (h : AL D cA Z H a ed mo n el) (hz : ed ≠ Z 0) : ed < H.size := by
  rcases h.2 with q | q
  · exact absurd q.2 hz
  · exact at_lt q.2
/-- all cells of a counter are there -/
theorem CR.lt (h : CR D cA Z H ad f n p mo) (q : Nat) (hq : CX ad Z f n p q) : q < H.size := by
  rcases hq with e | e | e | e | ⟨e, z⟩ | e | ⟨e, z⟩ | ⟨i, hi, e⟩ | ⟨i, hi, e⟩ | ⟨i, hi, hg, e⟩
  · subst e; exact at_lt h.obj
  · subst e; exact at_lt (a := ad 1) h.wei
  · subst e; exact at_lt (a := ad 2) h.spr
  · subst e; exact at_lt h.cl.1
  · subst e; exact h.cl.lt2 z
  · subst e; exact at_lt h.pl.1
  · subst e; exact h.pl.lt2 z
  · subst e; exact at_lt (h.cus i hi)
  · subst e; exact at_lt (h.pri i hi)
  · subst e; exact at_lt (h.kep i hi hg)
/-- only new cells came -/
theorem CR.old (h : CR D cA Z H ad f n p mo) (hc : hC (fun q => H.size ≤ q) H H1) : CR D cA Z H1 ad f n p mo := h.kept fun q hq => hc.2 q (h.lt q hq) (Nat.not_le.mpr (h.lt q hq))
/-- what is changed lies elsewhere -/
theorem CR.off {F : Nat → Prop} (h : CR D cA Z H ad f n p mo) (hc : hC F H H1) (hF : ∀ q, CX ad Z f n p q → ¬ F q) : CR D cA Z H1 ad f n p mo := h.kept fun q hq => hc.2 q (h.lt q hq) (hF q hq)
end CRL
theorem kq_0 {ad : Nat → Nat} {f : Nat → Int32} {i : Nat} (h : f (16 + 6 * i + 1) = 0) : kq ad f i = none := if_pos h
theorem kq_1 {ad : Nat → Nat} {f : Nat → Int32} {i : Nat} (h : ¬ f (16 + 6 * i + 1) = 0) : kq ad f i = some (ad (30 + i)) := if_neg h
theorem jrl_n {d : Nat → Int32} {r : Int32} {k : Nat} (h : ¬ r - r / d 8 * d 8 = 0) : jrl d r k = 1 := by unfold jrl tk_mu; rw [if_neg (by simpa using h)]
theorem jrg_n {d : Nat → Int32} {r : Int32} {k : Nat} (h : ¬ r - r / d 8 * d 8 = 0) : jrg d r k = 0 := by unfold jrg tk_mu; rw [if_neg (by simpa using h)]
theorem jrl_y {d : Nat → Int32} {r : Int32} {k : Nat} (h : r - r / d 8 * d 8 = 0) : jrl d r k = tk_le d r k := by unfold jrl tk_mu; rw [if_pos (by simpa using h)]
theorem jrg_y {d : Nat → Int32} {r : Int32} {k : Nat} (h : r - r / d 8 * d 8 = 0) : jrg d r k = tk_gr d r k := by unfold jrg tk_mu; rw [if_pos (by simpa using h)]
theorem p_le0' {B : Nat} {d : Nat → Int32} {r : Int32} {k : Nat} (h : tk_ok B d) (hr : r = 0) : tk_le d r k = 0 := by rw [hr]; exact p_le0 h
/-- the guesses, each by its own formula -/
def jG (u : Nat) (lo hi r w : Int32) : Int32 := if u = 0 then jmax lo (jmin hi ((2 * r + w - 1) / (2 * w))) else if u = 1 then lo else if u = 2 then hi else (lo + hi) / 2
theorem p_gu {B : Nat} {d : Nat → Int32} (h : tk_ok B d) {r : Int32} {k u : Nat} (hk : k < 4) (hu : u < 4) (h0 : 0 ≤ r.toInt) (h1 : r.toInt ≤ 3000000) :
    (if jmax 0 (jrg d r k - jrl d r k + 1) = 0 then -100009 else jG u (jrl d r k) (jrg d r k) r (d k)) = tk_gu d r k (nI u) := by
  have hn := p_none h hk h0 h1
  have hw := h.1 k hk
  cases ha : tk_al d r k with
  | false => rw [if_pos (hn.mpr ha), tk_gu, if_pos ha]
  | true =>
    rw [if_neg (fun q => by rw [hn.mp q] at ha; cases ha), tk_gu, if_neg (by rw [ha]; decide)]
    have ha2 := ha
    simp only [tk_al, Bool.and_eq_true, decide_eq_true_eq] at ha2
    have e1 : jrl d r k = tk_le d r k := if_pos ha2.1
    have e2 : jrg d r k = tk_gr d r k := if_pos ha2.1
    rw [e1, e2, jG]
    have hl := ha2.2
    rw [Int32.le_iff_toInt_le] at hl
    have hu2 : u = 0 ∨ u = 1 ∨ u = 2 ∨ u = 3 := by omega
    rcases hu2 with rfl | rfl | rfl | rfl
    · rw [if_pos rfl, if_neg (by decide), if_neg (by decide), if_neg (by decide), p_clamp hl, p_ne h0 h1 (by omega) (by omega)]
    · rfl
    · rfl
    · rfl
def jmx (d : Nat → Int32) (l s r : Int32) : Bool := tk_mu d r && tk_in r (tk_rd (l - s - d 9) (d 8)) (tk_rd (l + s + d 9) (d 8))
theorem ap_b {B : Nat} {d : Nat → Int32} (h : tk_ok B d) {j k : Nat} (hj : j < 4) (hk : k ≤ 1000) : (-536870912 ≤ (nI k * (d j + d (4 + j)) + d 9).toInt ∧ (nI k * (d j + d (4 + j)) + d 9).toInt ≤ 536870912) ∧ (-536870912 ≤ ((nI k + 1) * (d j - d (4 + j)) - d 9).toInt ∧ ((nI k + 1) * (d j - d (4 + j)) - d 9).toInt ≤ 536870912) := by
  have hw := h.1 j hj
  have h9 := h.2.2.1
  have e1 := heavy_t h hj
  have e2 := light_t h hj
  have e3 : (nI k).toInt = (k : Int) := nI_toInt (by omega)
  have e4 : (nI k + 1).toInt = (k : Int) + 1 := by rw [tadd (by rw [e3, tI1]; omega) (by rw [e3, tI1]; omega), e3, tI1]
  have a1 : 0 ≤ (k : Int) * ((d j).toInt + (d (4 + j)).toInt) := Int.mul_nonneg (by omega) (by omega)
  have a2 : (k : Int) * ((d j).toInt + (d (4 + j)).toInt) ≤ 1000 * 5050 := Int.mul_le_mul (by omega) (by omega) (by omega) (by omega)
  have b1 : 0 ≤ ((k : Int) + 1) * ((d j).toInt - (d (4 + j)).toInt) := Int.mul_nonneg (by omega) (by omega)
  have b2 : ((k : Int) + 1) * ((d j).toInt - (d (4 + j)).toInt) ≤ 1001 * 5050 := Int.mul_le_mul (by omega) (by omega) (by omega) (by omega)
  have m1 : (nI k * (d j + d (4 + j))).toInt = (k : Int) * ((d j).toInt + (d (4 + j)).toInt) := by rw [tmul (by rw [e3, e1]; omega) (by rw [e3, e1]; omega), e3, e1]
  have m2 : ((nI k + 1) * (d j - d (4 + j))).toInt = ((k : Int) + 1) * ((d j).toInt - (d (4 + j)).toInt) := by rw [tmul (by rw [e4, e2]; omega) (by rw [e4, e2]; omega), e4, e2]
  have n1 : (nI k * (d j + d (4 + j)) + d 9).toInt = (k : Int) * ((d j).toInt + (d (4 + j)).toInt) + (d 9).toInt := by rw [tadd (by rw [m1]; omega) (by rw [m1]; omega), m1]
  have n2 : ((nI k + 1) * (d j - d (4 + j)) - d 9).toInt = ((k : Int) + 1) * ((d j).toInt - (d (4 + j)).toInt) - (d 9).toInt := by rw [tsub (by rw [m2]; omega) (by rw [m2]; omega), m2]
  omega
theorem p_s2n5 {B : Nat} {d : Nat → Int32} (h : tk_ok B d) {j : Nat} (hj : j < 4) : ¬ 2 * d j = 0 := fun q => by
  have hw := h.1 j hj
  have : (2 * d j).toInt = 2 * (d j).toInt := by rw [tmul (by rw [tI2]; omega) (by rw [tI2]; omega), tI2]
  rw [q, tI0] at this
  omega
/-- a kept weighing is in its ranges -/
theorem okkd {B : Nat} {f : Nat → Int32} (h : tk_ok B f) {n k : Nat} (hn : f 14 = nI n) (h6 : n ≤ 6) (hk : k < n) (hg : ¬ f (16 + 6 * k + 1) = 0) : f (16 + 6 * k + 2) = nI (f (16 + 6 * k + 2)).toNatClampNeg ∧ (f (16 + 6 * k + 2)).toNatClampNeg < 4 ∧ (0 ≤ (f (16 + 6 * k + 4)).toInt ∧ (f (16 + 6 * k + 4)).toInt ≤ 3000000) ∧ f (16 + 6 * k + 1) = 1 ∧ (1 ≤ (f (16 + 6 * k + 3)).toInt ∧ (f (16 + 6 * k + 3)).toInt ≤ 500) ∧ (0 ≤ (f (16 + 6 * k + 5)).toInt ∧ (f (16 + 6 * k + 5)).toInt ≤ 60000) := by
  have h14 : (f 14).toInt = (n : Int) := by rw [hn, nI_toInt (by omega)]
  obtain ⟨-, -, h3⟩ := h.2.2.2.2.2.2.2.2.1 k (by omega)
  rcases h3 with h3 | ⟨h3, h4, h5, h7, h8⟩
  · exact absurd h3 hg
  · obtain ⟨j, a, b, e⟩ := tk_nIof (x := f (16 + 6 * k + 2)) (n := 3) (by omega) (by omega)
    have e2 : (f (16 + 6 * k + 2)).toNatClampNeg = j := by rw [e, nI_clamp (by omega)]
    exact ⟨by rw [e2]; exact e, by omega, h7, h3, h5, h8⟩
