/-- in a program's run: the array is dd, the state ahead of it is kept in b, all else is as it was -/
def tk_rj (S S' : Nat → Nat → Int32) (b dd : Nat → Int32) : Prop := S' 0 = dd ∧ S' 2 = b ∧ S' 3 = S 3 ∧ S' 4 = S 4 ∧ S' 5 = S 5 ∧ S' 7 0 = S 7 0 ∧ S' 7 1 = S 7 1 ∧ S' 7 2 = S 7 2
theorem rj_rs {S S1 S2 : Nat → Nat → Int32} {b dd : Nat → Int32} {L p : Nat} (k : tk_rj S S1 b dd) (h : tk_rs S1 S2 L p) : tk_rj S S2 b dd := by
  obtain ⟨a0, a2, a3, a4, a5, a6, a7, a8⟩ := k
  obtain ⟨b1, -, -, -, b5⟩ := h
  exact ⟨by rw [b1 _ (by decide), a0], by rw [b1 _ (by decide), a2], by rw [b1 _ (by decide), a3], by rw [b1 _ (by decide), a4], by rw [b1 _ (by decide), a5], by rw [b5 _ (by decide) (by decide) (by decide), a6], by rw [b5 _ (by decide) (by decide) (by decide), a7], by rw [b5 _ (by decide) (by decide) (by decide), a8]⟩
theorem rj_rn {S S1 S2 : Nat → Nat → Int32} {b dd : Nat → Int32} {L p m : Nat} (k : tk_rj S S1 b dd) (h : tk_rn S1 S2 L p m) : tk_rj S S2 b dd := by
  obtain ⟨a0, a2, a3, a4, a5, a6, a7, a8⟩ := k
  obtain ⟨b1, -, b5, -⟩ := h
  exact ⟨by rw [b1 _ (by decide) (by decide), a0], by rw [b1 _ (by decide) (by decide), a2], by rw [b1 _ (by decide) (by decide), a3], by rw [b1 _ (by decide) (by decide), a4], by rw [b1 _ (by decide) (by decide), a5], by rw [b5 _ (by decide) (by decide) (by decide), a6], by rw [b5 _ (by decide) (by decide) (by decide), a7], by rw [b5 _ (by decide) (by decide) (by decide), a8]⟩
theorem rj_sm {S S1 S2 : Nat → Nat → Int32} {b dd d' : Nat → Int32} (k : tk_rj S S1 b dd) (h : tk_sm S1 S2 d') : tk_rj S S2 b d' := by
  obtain ⟨a0, a2, a3, a4, a5, a6, a7, a8⟩ := k
  obtain ⟨b0, b1, b2, b3, b4, b5, b6, b7⟩ := h
  exact ⟨b0, by rw [b2, a2], by rw [b3, a3], by rw [b4, a4], by rw [b5, a5], by rw [b7 _ (by decide), a6], by rw [b7 _ (by decide), a7], by rw [b7 _ (by decide), a8]⟩
theorem tk_nums_c (w : Int32) : (tk_nums w = -1 ∨ tk_nums w = 1 ∨ tk_nums w = 2 ∨ tk_nums w = 3 ∨ tk_nums w = 5) := by
  unfold tk_nums
  split <;> (try split) <;> (try split) <;> (try split) <;> (try split) <;> (try split) <;> (try split) <;> (try split) <;> simp
theorem tk_manyI {t : Nat → Int32} {L p : Nat} (h : ¬ tk_nums (tk_wordP t L p) < 0) : tk_nums (tk_wordP t L p) = nI (tk_many t L p) ∧ tk_many t L p ≤ 5 := by
  unfold tk_many
  rcases tk_nums_c (tk_wordP t L p) with e | e | e | e | e <;> rw [e] at h ⊢
  · exact absurd (by decide) h
  · exact ⟨rfl, by decide⟩
  · exact ⟨rfl, by decide⟩
  · exact ⟨rfl, by decide⟩
  · exact ⟨rfl, by decide⟩
theorem tk_does_g {d g g' : Nat → Int32} {w : Int32} {m : Nat} (hw : tk_nums w = nI m) (hm : m ≤ 5) (h : ∀ i, i < m → g i = g' i) : tk_does d g w = tk_does d g' w := by
  have key : ∀ q : Nat, q ≤ 5 → tk_nums w = nI q → m = q := fun q hq e => (nI_eq (by omega) (by omega)).mp (hw.symm.trans e)
  unfold tk_does
  by_cases c1 : w = 114085
  · have := key 1 (by decide) (by rw [c1]; rfl)
    rw [if_pos c1, if_pos c1, h 0 (by omega)]
  rw [if_neg c1, if_neg c1]
  by_cases c2 : w = 370116
  · have := key 3 (by decide) (by rw [c2]; rfl)
    rw [if_pos c2, if_pos c2, h 0 (by omega), h 1 (by omega), h 2 (by omega)]
  rw [if_neg c2, if_neg c2]
  by_cases c3 : w = 611717
  · have := key 1 (by decide) (by rw [c3]; rfl)
    rw [if_pos c3, if_pos c3, h 0 (by omega)]
  rw [if_neg c3, if_neg c3]
  by_cases c4 : w = 3540269
  · have := key 2 (by decide) (by rw [c4]; rfl)
    rw [if_pos c4, if_pos c4, h 0 (by omega), h 1 (by omega)]
  rw [if_neg c4, if_neg c4]
  by_cases c5 : w = 17377093
  · have := key 5 (by decide) (by rw [c5]; rfl)
    rw [if_pos c5, if_pos c5, h 0 (by omega), h 1 (by omega), h 2 (by omega), h 3 (by omega), h 4 (by omega)]
  rw [if_neg c5, if_neg c5]
  by_cases c6 : w = 20022661
  · have := key 2 (by decide) (by rw [c6]; rfl)
    rw [if_pos c6, if_pos c6, h 0 (by omega), h 1 (by omega)]
  rw [if_neg c6, if_neg c6]
  by_cases c7 : w = 24290536
  · have := key 3 (by decide) (by rw [c7]; rfl)
    rw [if_pos c7, if_pos c7, h 0 (by omega), h 1 (by omega), h 2 (by omega)]
  rw [if_neg c7, if_neg c7]
  by_cases c8 : w = 2745
  · have := key 3 (by decide) (by rw [c8]; rfl)
    rw [h 0 (by omega), h 1 (by omega), h 2 (by omega)]
  · exfalso
    have : tk_nums w = -1 := by
      unfold tk_nums
      rw [if_neg c8, if_neg c1, if_neg c2, if_neg c3, if_neg c4, if_neg c5, if_neg c6, if_neg c7]
    rw [hw] at this
    have q := congrArg Int32.toInt this
    rw [nI_toInt (by omega)] at q
    have z : (-1 : Int32).toInt = -1 := by decide
    omega
abbrev tk_gg (t : Nat → Int32) (L p : Nat) : Nat → Int32 := fun i => tk_valP t L (tk_ps t L (tk_to t L p) i)
theorem run_0 {t : Nat → Int32} {L f p : Nat} {d : Nat → Int32} {n : Int32} (h : tk_sr t L p = 0) : tk_run t L (f + 1) d p n = (true, d, 0, 0, 0, n) := by rw [tk_run, if_pos h]
theorem run_1 {t : Nat → Int32} {L f p : Nat} {d : Nat → Int32} {n : Int32} (h : ¬ tk_sr t L p = 0) (h2 : tk_nums (tk_wordP t L p) < 0) : tk_run t L (f + 1) d p n = (false, d, 1, tk_ba t L p, -100009, n) := by rw [tk_run, if_neg h, if_pos h2]
theorem run_2 {t : Nat → Int32} {L f p : Nat} {d : Nat → Int32} {n : Int32} (h : ¬ tk_sr t L p = 0) (h2 : ¬ tk_nums (tk_wordP t L p) < 0) (h3 : (tk_rno t L (tk_many t L p) (tk_to t L p)).1 = false) : tk_run t L (f + 1) d p n = (false, d, 1, (tk_rno t L (tk_many t L p) (tk_to t L p)).2, -100009, n) := by rw [tk_run, if_neg h, if_neg h2, if_pos h3]
theorem run_3 {t : Nat → Int32} {L f p : Nat} {d : Nat → Int32} {n : Int32} (h : ¬ tk_sr t L p = 0) (h2 : ¬ tk_nums (tk_wordP t L p) < 0) (h3 : (tk_rno t L (tk_many t L p) (tk_to t L p)).1 = true) (h4 : -100001 < (tk_does d (tk_gg t L p) (tk_wordP t L p)).1) : tk_run t L (f + 1) d p n = tk_run t L f (tk_does d (tk_gg t L p) (tk_wordP t L p)).2 (tk_ps t L (tk_to t L p) (tk_many t L p + 1)) (n + 1) := by rw [tk_run, if_neg h, if_neg h2, if_neg (by rw [h3]; decide), if_pos h4]
theorem run_4 {t : Nat → Int32} {L f p : Nat} {d : Nat → Int32} {n : Int32} (h : ¬ tk_sr t L p = 0) (h2 : ¬ tk_nums (tk_wordP t L p) < 0) (h3 : (tk_rno t L (tk_many t L p) (tk_to t L p)).1 = true) (h4 : ¬ -100001 < (tk_does d (tk_gg t L p) (tk_wordP t L p)).1) : tk_run t L (f + 1) d p n = (false, d, if (tk_does d (tk_gg t L p) (tk_wordP t L p)).1 = -100001 then 2 else 3, tk_ba t L p, (tk_does d (tk_gg t L p) (tk_wordP t L p)).1, n) := by rw [tk_run, if_neg h, if_neg h2, if_neg (by rw [h3]; decide), if_neg h4]
abbrev tk_runR (S : Nat → Nat → Int32) (L : Nat) : Bool × (Nat → Int32) × Int32 × Nat × Int32 × Int32 := tk_run (S 4) L (L + 1) (S 0) 0 0
/-- what a run does -/
def tk_ro (S S' : Nat → Nat → Int32) (L n : Nat) (r : Int32) : Prop :=
  ((tk_runR S L).1 = true → r = (tk_runR S L).2.2.2.2.2 ∧ S' 0 = (tk_runR S L).2.1 ∧ S' 7 0 = nI (tk_pn n) ∧ S' 3 = tk_pw n (S 3) (tk_cp (S 0) (S 2) 284) ∧ S' 4 = S 4 ∧ S' 5 = S 5 ∧ S' 7 1 = 0 ∧ S' 7 2 = S 7 2) ∧
  ((tk_runR S L).1 = false → r = -1000 - nI (tk_runR S L).2.2.2.1 ∧ (∀ i, i < 284 → S' 0 i = S 0 i) ∧ S' 7 0 = S 7 0 ∧ S' 3 = S 3 ∧ S' 4 = S 4 ∧ S' 5 = tk_failA (S 5) (tk_runR S L).2.2.1 (nI (tk_runR S L).2.2.2.1) (tk_runR S L).2.2.2.2.1 (tk_runR S L).2.2.2.2.2 ∧ S' 7 1 = S 7 1 ∧ S' 7 2 = 1)
theorem ro_f {S S1 S2 : Nat → Nat → Int32} {dd : Nat → Int32} {L n : Nat} {r k c dn : Int32} {pl : Nat} {d0 : Nat → Int32} (hj : tk_rj S S1 (tk_cp (S 0) (S 2) 284) dd) (hR : tk_runR S L = (false, d0, k, pl, c, dn)) (hr : r = -1000 - nI pl) (hf : tk_fa S1 S2 k (nI pl) c dn) : tk_ro S S2 L n r := by
  obtain ⟨a0, a2, a3, a4, a5, a6, a7, a8⟩ := hj
  obtain ⟨f0, f3, f4, f5, f6, f7, f8⟩ := hf
  refine ⟨fun q => (by rw [hR] at q; cases q), fun _ => ?_⟩
  rw [hR]
  refine ⟨hr, fun i hi => ?_, by rw [f6, a6], by rw [f3, a3], by rw [f4, a4], by rw [f5, a5], by rw [f7, a7], f8⟩
  rw [f0, a2, tk_cp_l _ _ hi, tk_cp_l _ _ hi]
theorem ro_t {S S1 S2 S3 : Nat → Nat → Int32} {dd : Nat → Int32} {L n : Nat} {r : Int32} (hj : tk_rj S S1 (tk_cp (S 0) (S 2) 284) dd) (hR : tk_runR S L = (true, dd, 0, 0, 0, r)) (hp : tk_pu S1 S2 n (S1 2)) (h3 : S3 = su S2 7 (su (S2 7) 1 0)) : tk_ro S S3 L n r := by
  obtain ⟨a0, a2, a3, a4, a5, a6, a7, a8⟩ := hj
  obtain ⟨p1, p2, p3, p4⟩ := hp
  subst h3
  refine ⟨fun _ => ?_, fun q => (by rw [hR] at q; cases q)⟩
  rw [hR]
  refine ⟨rfl, by rw [su_n _ _ (by decide), p1 _ (by decide) (by decide), a0], by rw [su_s, su_n _ _ (by decide), p3], by rw [su_n _ _ (by decide), p4, a3, a2], by rw [su_n _ _ (by decide), p1 _ (by decide) (by decide), a4], by rw [su_n _ _ (by decide), p1 _ (by decide) (by decide), a5], by rw [su_s, su_s], by rw [su_s, su_n _ _ (by decide), p2 _ (by decide), a8]⟩
