/-! a counter is changed -/
theorem arr_eq {c : ClassId} {n : Nat} {f g : Nat → Value} (h : ∀ j, j < n → f j = g j) : arrV c n f = arrV c n g := by
  unfold arrV
  congr 1
  apply Array.ext
  · simp
  · intro j h1 h2
    simp at h1
    simpa using h j (by omega)
theorem at_arr {D : va_G} {a : Nat} {c : ClassId} {n : Nat} {f g : Nat → Int32} {H : Heap} (h : va_at D vwCl (a, .inl (c, n, .inl f)) H) (e : ∀ j, j < n → f j = g j) : va_at D vwCl (a, .inl (c, n, .inl g)) H := by
  have h1 : H[a]? = some (vp_cell c (n, .inl f)) := h
  show H[a]? = some (vp_cell c (n, .inl g))
  rw [h1, vp_cell_i, vp_cell_i, arr_eq (fun j hj => by rw [e j hj])]
section CRA
variable {D : va_G} {cA : Nat → ClassId} {Z : Nat → Nat} {H H1 : Heap} {ad ad' : Nat → Nat} {f g : Nat → Int32} {n p : Nat} {mo : Nat → Int32} {s : State}
/-- the counter's cells of other classes are none of its objects -/
theorem CR.apart (hK : va_K D vwCl (tysG cA) s) (h : CR D cA Z H ad f n p mo) {q ci : Nat} {fs : List Value} (hci : ci = 2 ∨ ci = 4 ∨ ci = 5) (hq : va_at D vwCl (q, .inr (ci, fs)) H) : ad 1 ≠ q ∧ ad 2 ≠ q ∧ ad 3 ≠ q ∧ (ad 4 ≠ Z 0 → ad 4 ≠ q) ∧ ad 5 ≠ q ∧ (ad 6 ≠ Z 0 → ad 6 ≠ q) := by
  have ha : ∀ (z : Nat) (e : va_E), va_at D vwCl (z, e) H → clsOf D e ≠ D.1 ci → z ≠ q := fun z e he hn => at_ne he hq hn
  have k0 : D.1 ci ≠ cA 0 := by
    rcases hci with rfl | rfl | rfl
    · exact K_ca hK (i := 2) 0 rfl rfl (by decide)
    · exact K_ca hK (i := 4) 0 rfl rfl (by decide)
    · exact K_ca hK (i := 5) 0 rfl rfl (by decide)
  have k3 : D.1 ci ≠ cA 3 := by
    rcases hci with rfl | rfl | rfl
    · exact K_ca hK (i := 2) 3 rfl rfl (by decide)
    · exact K_ca hK (i := 4) 3 rfl rfl (by decide)
    · exact K_ca hK (i := 5) 3 rfl rfl (by decide)
  have kl : D.1 10 ≠ D.1 ci := by
    rcases hci with rfl | rfl | rfl
    · exact K_cc hK (i := 10) (j := 2) rfl rfl (by decide)
    · exact K_cc hK (i := 10) (j := 4) rfl rfl (by decide)
    · exact K_cc hK (i := 10) (j := 5) rfl rfl (by decide)
  refine ⟨ha _ _ h.wei (Ne.symm k0), ha _ _ h.spr (Ne.symm k0), ha _ _ h.cl.1 kl, fun hz => ?_, ha _ _ h.pl.1 kl, fun hz => ?_⟩
  · rcases h.cl.2 with e | e
    · exact absurd e.2 hz
    · exact ha _ _ e.2 (Ne.symm k3)
  · rcases h.pl.2 with e | e
    · exact absurd e.2 hz
    · exact ha _ _ e.2 (Ne.symm k3)
/-- its numbers, customers and prizes are changed; its tickets and lists are not -/
theorem CR.act (hK : va_K D vwCl (tysG cA) s) (h : CR D cA Z H ad f n p mo) (hfr : ∀ q, q < H.size → q ≠ ad 0 → (∀ i, i < n → q ≠ ad (10 + i)) → (∀ i, i < p → q ≠ ad (20 + i)) → H1[q]? = H[q]?)
    (had : ∀ i, i < 30 → ad' i = ad i) (hg : ∀ j, j < 8 → g j = f j) (h14 : g 14 = f 14) (h15 : g 15 = f 15)
    (hobj : va_at D vwCl (ad 0, .inr (2, [.ref (ad 1), .ref (ad 2), .int (g 8), .int (g 9), .int (g 10), .int (g 11), .int (g 12), .int (g 13), .ref (ad 3), .ref (ad 5)])) H1)
    (hcus : ∀ i, i < n → va_at D vwCl (ad (10 + i), .inr (4, [.int (g (16 + 6 * i)), va_rf (kq ad' g i)])) H1)
    (hkep : ∀ i, i < n → ¬ g (16 + 6 * i + 1) = 0 → va_at D vwCl (ad' (30 + i), .inr (7, [.int (g (16 + 6 * i + 2)), .int (g (16 + 6 * i + 3)), .int (g (16 + 6 * i + 4)), .int (g (16 + 6 * i + 5))])) H1)
    (hpri : ∀ i, i < p → va_at D vwCl (ad (20 + i), .inr (5, [.int (g (52 + 7 * i)), .int (g (52 + 7 * i + 1)), .int (g (52 + 7 * i + 2)), .int (g (52 + 7 * i + 3)), .int (g (52 + 7 * i + 4)), .int (g (52 + 7 * i + 5)), .int (g (52 + 7 * i + 6))])) H1) :
    CR D cA Z H1 ad' g n p mo := by
  have n6 := h.n6
  have p6 := h.p6
  have a0 := h.apart hK (Or.inl rfl) h.obj
  have a1 := fun i hi => h.apart hK (Or.inr (Or.inl rfl)) (h.cus i hi)
  have a2 := fun i hi => h.apart hK (Or.inr (Or.inr rfl)) (h.pri i hi)
  have e1 : H1[ad 1]? = H[ad 1]? := hfr _ (at_lt (a := ad 1) h.wei) a0.1 (fun i hi => (a1 i hi).1) (fun i hi => (a2 i hi).1)
  have e2 : H1[ad 2]? = H[ad 2]? := hfr _ (at_lt (a := ad 2) h.spr) a0.2.1 (fun i hi => (a1 i hi).2.1) (fun i hi => (a2 i hi).2.1)
  have e3 : H1[ad 3]? = H[ad 3]? := hfr _ (at_lt h.cl.1) a0.2.2.1 (fun i hi => (a1 i hi).2.2.1) (fun i hi => (a2 i hi).2.2.1)
  have e4 : ad 4 ≠ Z 0 → H1[ad 4]? = H[ad 4]? := fun z => hfr _ (h.cl.lt2 z) (a0.2.2.2.1 z) (fun i hi => (a1 i hi).2.2.2.1 z) (fun i hi => (a2 i hi).2.2.2.1 z)
  have e5 : H1[ad 5]? = H[ad 5]? := hfr _ (at_lt h.pl.1) a0.2.2.2.2.1 (fun i hi => (a1 i hi).2.2.2.2.1) (fun i hi => (a2 i hi).2.2.2.2.1)
  have e6 : ad 6 ≠ Z 0 → H1[ad 6]? = H[ad 6]? := fun z => hfr _ (h.pl.lt2 z) (a0.2.2.2.2.2 z) (fun i hi => (a1 i hi).2.2.2.2.2 z) (fun i hi => (a2 i hi).2.2.2.2.2 z)
  have q10 : ∀ i, i < n → ad' (10 + i) = ad (10 + i) := fun i hi => had _ (by omega)
  have q20 : ∀ i, i < p → ad' (20 + i) = ad (20 + i) := fun i hi => had _ (by omega)
  have al : ∀ {k : Nat} {el el' : Nat → Nat}, (∀ i, i < k → el' i = el i) → alf k el' = alf k el := fun {k el el'} he => by
    funext j
    unfold alf
    by_cases hj : j < k
    · rw [if_pos hj, if_pos hj, he j hj]
    · rw [if_neg hj, if_neg hj]
  refine ⟨?_, ?_, ?_, ?_, ?_, fun i hi => ?_, fun i hi hz => hkep i hi hz, fun i hi => ?_, by rw [h14]; exact h.hn, by rw [h15]; exact h.hp, n6, p6, ?_, ?_, ?_, fun i j hi hj q => ?_, fun i j hi hj q => ?_⟩
  · rw [had 0 (by decide), had 1 (by decide), had 2 (by decide), had 3 (by decide), had 5 (by decide)]; exact hobj
  · rw [had 1 (by decide)]; exact at_arr (va_at.kept (q := (ad 1, _)) h.wei e1) (fun j hj => (hg j (by omega)).symm)
  · rw [had 2 (by decide)]; exact at_arr (va_at.kept (q := (ad 2, _)) h.spr e2) (fun j hj => (hg _ (by omega)).symm)
  · have z := h.cl.kept e3 e4
    rw [had 3 (by decide), had 4 (by decide)]
    unfold AL at z ⊢
    rw [al (el := fun i => ad (10 + i)) (el' := fun i => ad' (10 + i)) q10]
    exact z
  · have z := h.pl.kept e5 e6
    rw [had 5 (by decide), had 6 (by decide)]
    unfold AL at z ⊢
    rw [al (el := fun i => ad (20 + i)) (el' := fun i => ad' (20 + i)) q20]
    exact z
  · rw [q10 i hi]; exact hcus i hi
  · rw [q20 i hi]; exact hpri i hi
  · rw [had 1 (by decide), had 2 (by decide)]; exact h.i12
  · rw [had 3 (by decide), had 5 (by decide)]; exact h.i35
  · rw [had 4 (by decide), had 6 (by decide)]; exact h.i46
  · rw [q10 i hi, q10 j hj] at q; exact h.ik i j hi hj q
  · rw [q20 i hi, q20 j hj] at q; exact h.ip i j hi hj q
theorem CR.cu_ix {B : Nat} (h : CR D cA Z H ad f n p mo) (hI : tk_ok B f) {c : Int32} (hc : tk_cus f c = true) : ∃ j, j < n ∧ c = nI j := by
  obtain ⟨j, a, b, e⟩ := ok_cus hI hc
  have n6 := h.n6
  rw [h.hn, nI_toInt (by omega)] at b
  exact ⟨j, by omega, e⟩
theorem CR.pr_ix {B : Nat} (h : CR D cA Z H ad f n p mo) (hI : tk_ok B f) {c : Int32} (hc : tk_pri f c = true) : ∃ j, j < p ∧ c = nI j := by
  obtain ⟨j, a, b, e⟩ := ok_pri hI hc
  have p6 := h.p6
  rw [h.hp, nI_toInt (by omega)] at b
  exact ⟨j, by omega, e⟩
/-- only its tickets are changed -/
theorem CR.actW (hK : va_K D vwCl (tysG cA) s) (h : CR D cA Z H ad f n p mo) (hfr : hC (fun q => q = ad 1 ∨ q = ad 2) H H1) (hg : ∀ j, 8 ≤ j → g j = f j)
    (hw : va_at D vwCl (ad 1, .inl (cA 0, 4, .inl g)) H1) (hs : va_at D vwCl (ad 2, .inl (cA 0, 4, .inl (fun j => g (4 + j)))) H1) : CR D cA Z H1 ad g n p mo := by
  have ne : ∀ (q : Nat) (e : va_E), va_at D vwCl (q, e) H → clsOf D e ≠ cA 0 → ¬ (q = ad 1 ∨ q = ad 2) := fun q e hq hn z => by
    rcases z with z | z
    · exact at_ne hq h.wei hn z
    · exact at_ne hq h.spr hn z
  refine ⟨?_, hw, hs, h.cl.kept (hfr.2 _ (at_lt h.cl.1) (ne _ _ h.cl.1 (K_ca hK (i := 10) 0 rfl rfl (by decide)))) (fun z => ?_), h.pl.kept (hfr.2 _ (at_lt h.pl.1) (ne _ _ h.pl.1 (K_ca hK (i := 10) 0 rfl rfl (by decide)))) (fun z => ?_), fun i hi => ?_, fun i hi hz => ?_, fun i hi => ?_, by rw [hg 14 (by decide)]; exact h.hn, by rw [hg 15 (by decide)]; exact h.hp, h.n6, h.p6, h.i12, h.i35, h.i46, h.ik, h.ip⟩
  · rw [hg 8 (by decide), hg 9 (by decide), hg 10 (by decide), hg 11 (by decide), hg 12 (by decide), hg 13 (by decide)]
    exact atC h.obj hfr (ne _ _ h.obj (K_ca hK (i := 2) 0 rfl rfl (by decide)))
  · rcases h.cl.2 with e | e
    · exact absurd e.2 z
    · exact hfr.2 _ (at_lt e.2) (ne _ _ e.2 (K_aa hK 3 0 rfl rfl (by decide)))
  · rcases h.pl.2 with e | e
    · exact absurd e.2 z
    · exact hfr.2 _ (at_lt e.2) (ne _ _ e.2 (K_aa hK 3 0 rfl rfl (by decide)))
  · have z := atC (h.cus i hi) hfr (ne _ _ (h.cus i hi) (K_ca hK (i := 4) 0 rfl rfl (by decide)))
    unfold kq at z ⊢
    rw [hg _ (by omega), hg _ (by omega)]
    exact z
  · rw [hg _ (by omega)] at hz
    have z := atC (h.kep i hi hz) hfr (ne _ _ (h.kep i hi hz) (K_ca hK (i := 7) 0 rfl rfl (by decide)))
    rw [hg _ (by omega), hg _ (by omega), hg _ (by omega), hg _ (by omega)]
    exact z
  · have z := atC (h.pri i hi) hfr (ne _ _ (h.pri i hi) (K_ca hK (i := 5) 0 rfl rfl (by decide)))
    rw [hg _ (by omega), hg _ (by omega), hg _ (by omega), hg _ (by omega), hg _ (by omega), hg _ (by omega), hg _ (by omega)]
    exact z
/-- only its numbers are changed -/
theorem CR.actO (hK : va_K D vwCl (tysG cA) s) (h : CR D cA Z H ad f n p mo) (hfr : hC (fun q => q = ad 0) H H1) (hg : ∀ j, ¬ (8 ≤ j ∧ j ≤ 13) → g j = f j)
    (hobj : va_at D vwCl (ad 0, .inr (2, [.ref (ad 1), .ref (ad 2), .int (g 8), .int (g 9), .int (g 10), .int (g 11), .int (g 12), .int (g 13), .ref (ad 3), .ref (ad 5)])) H1) : CR D cA Z H1 ad g n p mo := by
  have c1 : ∀ i, i < n → ad (10 + i) ≠ ad 0 := fun i hi => at_ne (h.cus i hi) h.obj (K_cc hK (i := 4) (j := 2) rfl rfl (by decide))
  have c2 : ∀ i, i < p → ad (20 + i) ≠ ad 0 := fun i hi => at_ne (h.pri i hi) h.obj (K_cc hK (i := 5) (j := 2) rfl rfl (by decide))
  refine h.act hK (fun q hq h0 _ _ => hfr.2 q hq h0) (fun _ _ => rfl) (fun j hj => hg j (by omega)) (hg 14 (by omega)) (hg 15 (by omega)) hobj (fun i hi => ?_) (fun i hi hz => ?_) (fun i hi => ?_)
  · have z := atC (h.cus i hi) hfr (c1 i hi)
    unfold kq at z ⊢
    rw [hg _ (by omega), hg _ (by omega)]
    exact z
  · rw [hg _ (by omega)] at hz
    have z := atC (h.kep i hi hz) hfr (at_ne (h.kep i hi hz) h.obj (K_cc hK (i := 7) (j := 2) rfl rfl (by decide)))
    rw [hg _ (by omega), hg _ (by omega), hg _ (by omega), hg _ (by omega)]
    exact z
  · have z := atC (h.pri i hi) hfr (c2 i hi)
    rw [hg _ (by omega), hg _ (by omega), hg _ (by omega), hg _ (by omega), hg _ (by omega), hg _ (by omega), hg _ (by omega)]
    exact z
end CRA
theorem p_bias {li b : Int32} (h : tk_in li 0 2000 = true) : jmax (-li) (jmin li b) = if li < b then li else if b < -li then -li else b := by
  have h1 := tk_inI h
  rw [tI0, show (2000 : Int32).toInt = 2000 from by decide] at h1
  have hn : (-li).toInt = -li.toInt := tneg (by omega)
  refine Int32.toInt_inj.mp ?_
  rw [jmax_t, jmin_t, hn]
  by_cases h2 : li < b
  · rw [if_pos h2]; rw [Int32.lt_iff_toInt_lt] at h2; omega
  · rw [if_neg h2]
    by_cases h3 : b < -li
    · rw [if_pos h3, hn]; rw [Int32.lt_iff_toInt_lt, hn] at h3; rw [Int32.lt_iff_toInt_lt] at h2; omega
    · rw [if_neg h3]; rw [Int32.lt_iff_toInt_lt, hn] at h3; rw [Int32.lt_iff_toInt_lt] at h2; omega
