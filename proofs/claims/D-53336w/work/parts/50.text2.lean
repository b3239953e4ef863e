theorem tk_foldS (m c : Int32) (t : Nat → Int32) (s n : Nat) : tk_fold m c t s (n + 1) = m * tk_fold m c t s n + t (s + n) - c := rfl
/-- k numbers are read -/
def tk_rk (S S' : Nat → Nat → Int32) (L p k : Nat) : Prop := (∀ j, j ≠ 6 → j ≠ 7 → S' j = S j) ∧ S' 7 4 = nI (tk_ps (S 4) L p k) ∧ (∀ j, j ≠ 3 → j ≠ 4 → j ≠ 5 → S' 7 j = S 7 j) ∧ ∀ i, i < k → S' 6 i = tk_valP (S 4) L (tk_ps (S 4) L p i)
theorem tk_rk0 {S : Nat → Nat → Int32} {L p : Nat} (h : S 7 4 = nI p) : tk_rk S S L p 0 := ⟨fun _ _ _ => rfl, h, fun _ _ _ _ => rfl, fun i h => absurd h (Nat.not_lt_zero _)⟩
theorem tk_rkS {S S0 S1 S2 : Nat → Nat → Int32} {L p k : Nat} (h : tk_rk S S0 L p k) (h1 : tk_rs S0 S1 L (tk_ps (S 4) L p k)) (h2 : S2 = su S1 6 (upd (S1 6) k (tk_valP (S 4) L (tk_ps (S 4) L p k)))) : tk_rk S S2 L p (k + 1) := by
  subst h2
  obtain ⟨a1, a2, a3, a4⟩ := h
  obtain ⟨b1, b2, b3, b4, b5⟩ := h1
  have e4 : S0 4 = S 4 := a1 4 (by decide) (by decide)
  rw [e4] at b2 b3 b4
  refine ⟨fun j h6 h7 => by rw [su_n _ _ h6, b1 j h7, a1 j h6 h7], by rw [su_n _ _ (by decide), b3]; rfl, fun j h3 h4 h5 => by rw [su_n _ _ (by decide), b5 j h3 h4 h5, a3 j h3 h4 h5], fun i hi => ?_⟩
  rw [su_s]
  by_cases q : i = k
  · subst q; rw [pk_us]
  · rw [pk_un q, b1 6 (by decide), a4 i (by omega)]
theorem tk_rnF {S S0 S1 : Nat → Nat → Int32} {L p k m : Nat} (h : tk_rk S S0 L p k) (h1 : tk_rs S0 S1 L (tk_ps (S 4) L p k)) (hk : tk_rno (S 4) L m p = (false, tk_ba (S 4) L (tk_ps (S 4) L p k))) : tk_rn S S1 L p m := by
  obtain ⟨a1, a2, a3, a4⟩ := h
  obtain ⟨b1, b2, b3, b4, b5⟩ := h1
  have e4 : S0 4 = S 4 := a1 4 (by decide) (by decide)
  rw [e4] at b2
  exact ⟨fun j h6 h7 => by rw [b1 j h7, a1 j h6 h7], by rw [b2, hk], fun j h3 h4 h5 => by rw [b5 j h3 h4 h5, a3 j h3 h4 h5], fun q => by rw [hk] at q; cases q⟩
theorem tk_rnT {S S0 S1 : Nat → Nat → Int32} {L p m : Nat} (h : tk_rk S S0 L p m) (h1 : tk_rs S0 S1 L (tk_ps (S 4) L p m)) (hk : tk_rno (S 4) L m p = tk_rno (S 4) L (m - m) (tk_ps (S 4) L p m)) : tk_rn S S1 L p m := by
  obtain ⟨a1, a2, a3, a4⟩ := h
  obtain ⟨b1, b2, b3, b4, b5⟩ := h1
  have e4 : S0 4 = S 4 := a1 4 (by decide) (by decide)
  rw [e4] at b2 b3
  refine ⟨fun j h6 h7 => by rw [b1 j h7, a1 j h6 h7], ?_, fun j h3 h4 h5 => by rw [b5 j h3 h4 h5, a3 j h3 h4 h5], fun _ => ⟨by rw [b3]; rfl, fun i hi => by rw [b1 6 (by decide), a4 i hi]⟩⟩
  rw [b2, hk, Nat.sub_self, tk_rno]
def tk_failA (f : Nat → Int32) (k pl c n : Int32) : Nat → Int32 := upd (upd (upd (upd (upd f 0 k) 1 pl) 2 (if k = 1 then 1 else 2)) 3 c) 4 n
def tk_fa (S S' : Nat → Nat → Int32) (k pl c n : Int32) : Prop := S' 0 = tk_cp (S 2) (S 0) 284 ∧ S' 3 = S 3 ∧ S' 4 = S 4 ∧ S' 5 = tk_failA (S 5) k pl c n ∧ S' 7 0 = S 7 0 ∧ S' 7 1 = S 7 1 ∧ S' 7 2 = 1
