/-! what the questions answer -/
def tk_kept (d : Nat → Int32) : Int32 := tk_sum (fun c => d (16 + 6 * c + 1)) (d 14).toNatClampNeg
def tk_stocks (d : Nat → Int32) : Int32 := tk_sum (fun p => d (52 + 7 * p + 2)) (d 15).toNatClampNeg
def tk_count (d : Nat → Int32) (states len w : Int32) : Int32 := if w = 0 then d 8 else if w = 1 then d 9 else if w = 2 then d 10 else if w = 3 then d 11 else if w = 4 then d 12 else if w = 5 then d 14 else if w = 6 then d 15 else if w = 7 then tk_kept d else
  if w = 8 then d 13 else if w = 9 then tk_pts d else if w = 10 then tk_stocks d else if w = 11 then d 94 + d 189 else if w = 12 then states else if w = 13 then len else -100001
def tk_kindq (d : Nat → Int32) (k w : Int32) : Int32 := if (tk_in k 0 3 && tk_in w 0 1) = false then -100001 else d (4 * w.toNatClampNeg + k.toNatClampNeg)
def tk_custq (d : Nat → Int32) (c w : Int32) : Int32 := if (tk_cus d c && tk_in w 0 4) = false then -100001 else if w = 0 then d (16 + 6 * c.toNatClampNeg) else if d (16 + 6 * c.toNatClampNeg + 1) = 0 then -100009 else d (16 + 6 * c.toNatClampNeg + (w.toNatClampNeg + 1))
def tk_prizq (d : Nat → Int32) (p w : Int32) : Int32 := if (tk_pri d p && tk_in w 0 6) = false then -100001 else d (52 + 7 * p.toNatClampNeg + w.toNatClampNeg)
def tk_readq (d : Nat → Int32) (x : Int32) : Int32 := if tk_in x (-5000) 3000000 = false then -100001 else tk_rd x (d 8)
def tk_allq (d : Nat → Int32) (r k w : Int32) : Int32 := if (tk_in r 0 3000000 && tk_in k 0 3 && tk_in w 0 2) = false then -100001 else if tk_al d r k.toNatClampNeg = false then (if w = 2 then 0 else -100009) else
  if w = 0 then tk_le d r k.toNatClampNeg else if w = 1 then tk_gr d r k.toNatClampNeg else tk_gr d r k.toNatClampNeg - tk_le d r k.toNatClampNeg + 1
def tk_gueq (d : Nat → Int32) (r k u : Int32) : Int32 := if (tk_in r 0 3000000 && tk_in k 0 3 && tk_in u 0 3) = false then -100001 else tk_gu d r k.toNatClampNeg u
/-- n counts are told apart from the next one by a step -/
def tk_apc (d : Nat → Int32) (k : Nat) (st : Int32) (n : Nat) : Bool := decide (tk_rd (nI n * (d k + d (4 + k)) + d 9) st < tk_rd ((nI n + 1) * (d k - d (4 + k)) - d 9) st)
def tk_ap (d : Nat → Int32) (k : Nat) (st : Int32) : Nat → Nat → Nat
  | 0, n => n
  | f + 1, n => if tk_apc d k st n = true then tk_ap d k st f (n + 1) else n
def tk_apq (d : Nat → Int32) (k : Int32) : Int32 := if tk_in k 0 3 = false then -100001 else nI (tk_ap d k.toNatClampNeg (d 8) 999 0)
def tk_best (d : Nat → Int32) (k m : Nat) : Nat → Int32
  | 0 => -100009
  | s + 1 => if tk_ap d k (nI (s + 1)) m 0 = m then nI (s + 1) else tk_best d k m s
def tk_bestq (d : Nat → Int32) (k n : Int32) : Int32 := if (tk_in k 0 3 && tk_in n 0 99) = false then -100001 else tk_best d k.toNatClampNeg n.toNatClampNeg 1000
def tk_mx (d : Nat → Int32) (o : Nat) (a : Int32) (q : Nat) (b r : Int32) : Bool := tk_mu d r &&
  (!decide (tk_hi d r < a * (d o - d (4 + o)) + b * (d q - d (4 + q)) - d 9) && !decide (a * (d o + d (4 + o)) + b * (d q + d (4 + q)) + d 9 < tk_lo d r))
def tk_mxs (s : Int32 × Int32 × Int32) (sum : Nat) : Int32 × Int32 × Int32 := (s.1 + 1, if s.2.1 = -100009 then nI sum else s.2.1, nI sum)
def tk_mxi (P : Nat → Nat → Bool) (sum : Nat) (s : Int32 × Int32 × Int32) : Nat → Int32 × Int32 × Int32
  | 0 => s
  | k + 1 => if P k (sum - k) = true then tk_mxs (tk_mxi P sum s k) sum else tk_mxi P sum s k
def tk_mxo (P : Nat → Nat → Bool) : Nat → Int32 × Int32 × Int32
  | 0 => (0, -100009, -100009)
  | j + 1 => tk_mxi P j (tk_mxo P j) (j + 1)
def tk_pick (s : Int32 × Int32 × Int32) (w : Int32) : Int32 := if w = 0 then s.1 else if w = 1 then s.2.1 else s.2.2
def tk_mixq (d : Nat → Int32) (o q r w : Int32) : Int32 := if (tk_in o 0 3 && tk_in q 0 3 && tk_in r 0 3000000 && tk_in w 0 2 && !decide (o = q)) = false then -100001 else
  tk_pick (tk_mxo (fun a b => tk_mx d o.toNatClampNeg (nI a) q.toNatClampNeg (nI b) r) 61) w
def tk_gvr (d : Nat → Int32) (u : Int32) : Nat → Nat → Int32 → Int32
  | 0, _, s => s
  | n + 1, c, s => if d (16 + 6 * c + 1) = 1 then (if tk_gu d (d (16 + 6 * c + 4)) (d (16 + 6 * c + 2)).toNatClampNeg u = -100009 then -100009 else tk_gvr d u n (c + 1) (s + (tk_gu d (d (16 + 6 * c + 4)) (d (16 + 6 * c + 2)).toNatClampNeg u - d (16 + 6 * c + 3)))) else tk_gvr d u n (c + 1) s
def tk_gv (d : Nat → Int32) (u : Int32) : Int32 := tk_gvr d u (d 14).toNatClampNeg 0 0
def tk_wouq (d : Nat → Int32) (u : Int32) : Int32 := if tk_in u 0 3 = false then -100001 else if tk_gv d u = -100009 then -100009 else 100000 + tk_gv d u
def tk_fr (d : Nat → Int32) : Nat → Nat → Int32 → Int32
  | 0, _, f => f
  | n + 1, u, f => if tk_gv d (nI u) = -100009 then -100009 else if f = -100009 then tk_fr d n (u + 1) (nI u) else if tk_far (tk_gv d (nI u)) 0 < tk_far (tk_gv d f) 0 then tk_fr d n (u + 1) (nI u) else tk_fr d n (u + 1) f
def tk_fairq (d : Nat → Int32) : Int32 := tk_fr d 4 0 (-100009)
def tk_so (w m e : Int32) : Nat → Nat → Int32 → Int32 → Int32
  | 0, _, _, _ => -100009
  | f + 1, n, stock, sold => if stock = 0 then nI n else tk_so w m e f (n + 1) (tk_stk (stock - 1) ((sold + w) / m) e) ((sold + w) - (sold + w) / m * m)
def tk_soldq (d : Nat → Int32) (p : Int32) : Int32 := if tk_pri d p = false then -100001 else
  tk_so (d (52 + 7 * p.toNatClampNeg + 1)) (d (52 + 7 * p.toNatClampNeg + 3)) (d (52 + 7 * p.toNatClampNeg + 4) / d (52 + 7 * p.toNatClampNeg + 1)) 1000 0 (d (52 + 7 * p.toNatClampNeg + 2)) (d (52 + 7 * p.toNatClampNeg + 5))
/-- how many prizes stand ahead of p, in the order of prices and numbers -/
def tk_bef (d : Nat → Int32) (q p : Nat) : Bool := decide (d (52 + 7 * q) < d (52 + 7 * p)) || (decide (d (52 + 7 * q) = d (52 + 7 * p)) && decide (q < p))
def tk_ah (d : Nat → Int32) (p : Nat) : Nat → Nat
  | 0 => 0
  | q + 1 => if tk_bef d q p = true then tk_ah d p q + 1 else tk_ah d p q
def tk_nth (d : Nat → Int32) (np k : Nat) : Nat → Nat → Nat
  | 0, p => p
  | f + 1, p => if tk_ah d p np = k then p else tk_nth d np k f (p + 1)
def tk_sh1 (d : Nat → Int32) (p : Nat) (s : Int32 × Int32 × Int32) : Int32 × Int32 × Int32 :=
  let n := if d (52 + 7 * p + 2) < s.2.1 / d (52 + 7 * p) then d (52 + 7 * p + 2) else s.2.1 / d (52 + 7 * p)
  (s.1 + n, s.2.1 - n * d (52 + 7 * p), s.2.2 + n * d (52 + 7 * p + 1))
def tk_shr (d : Nat → Int32) (np : Nat) (pts : Int32) : Nat → Int32 × Int32 × Int32
  | 0 => (0, pts, 0)
  | k + 1 => tk_sh1 d (tk_nth d np k np 0) (tk_shr d np pts k)
def tk_shopq (d : Nat → Int32) (c w : Int32) : Int32 := if (tk_cus d c && tk_in w 0 2) = false then -100001 else tk_pick (tk_shr d (d 15).toNatClampNeg (d (16 + 6 * c.toNatClampNeg)) (d 15).toNatClampNeg) w
theorem tk_apS {d : Nat → Int32} {k : Nat} {st : Int32} {m n : Nat} (h : n < m) (hc : tk_apc d k st n = true) : tk_ap d k st (m - n) n = tk_ap d k st (m - (n + 1)) (n + 1) := by
  rw [show m - n = (m - (n + 1)) + 1 by omega, tk_ap, if_pos hc]
theorem tk_apE {d : Nat → Int32} {k : Nat} {st : Int32} {m n : Nat} (h : n ≤ m) (hc : m ≤ n ∨ tk_apc d k st n = false) : tk_ap d k st (m - n) n = n := by
  by_cases q : m ≤ n
  · rw [show m - n = 0 by omega, tk_ap]
  · rcases hc with hc | hc
    · exact absurd hc q
    · rw [show m - n = (m - (n + 1)) + 1 by omega, tk_ap, if_neg (by rw [hc]; decide)]
theorem tk_bestY {d : Nat → Int32} {k m s : Nat} (h : 0 < s) (hc : tk_ap d k (nI s) m 0 = m) : tk_best d k m s = nI s := by
  rw [show s = (s - 1) + 1 by omega] at hc ⊢
  rw [tk_best, if_pos hc]
theorem tk_bestN {d : Nat → Int32} {k m s : Nat} (h : 0 < s) (hc : ¬ tk_ap d k (nI s) m 0 = m) : tk_best d k m s = tk_best d k m (s - 1) := by
  rw [show s = (s - 1) + 1 by omega] at hc ⊢
  rw [tk_best, if_neg hc]
  rfl
theorem ne2 {k : Nat} (h : k ≤ 1000) (h0 : 0 < k) : ¬ 2 * nI k = 0 := by
  intro q
  have h1 : (2 : Int32) * nI k = nI (2 * k) := ixM rfl rfl
  rw [h1] at q
  have := (nI_eq (a := 2 * k) (b := 0) (by omega) (by omega)).mp q
  omega
theorem nI_m1 {k : Nat} (h : 0 < k) : nI k + (-1) = nI (k - 1) := by
  rw [show k = (k - 1) + 1 by omega, pk_m1]
  rfl
theorem tk_ap_le {d : Nat → Int32} {k : Nat} {st : Int32} : ∀ (f n : Nat), tk_ap d k st f n ≤ n + f
  | 0, n => by rw [tk_ap]; omega
  | f + 1, n => by
    rw [tk_ap]
    split
    · have := tk_ap_le (d := d) (k := k) (st := st) f (n + 1); omega
    · omega
theorem tk_smt {S S1 : Nat → Nat → Int32} {r : Int32} {k : Nat} (h : tk_sm S S1 (S 0)) : tk_sm S (tk_alS S1 r k) (S 0) := by
  obtain ⟨a0, a1, a2, a3, a4, a5, a6, a7⟩ := h
  exact ⟨by rw [tk_alS_0 _ _ _ (by decide), a0], by rw [tk_alS_0 _ _ _ (by decide), a1], by rw [tk_alS_0 _ _ _ (by decide), a2], by rw [tk_alS_0 _ _ _ (by decide), a3], by rw [tk_alS_0 _ _ _ (by decide), a4], by rw [tk_alS_0 _ _ _ (by decide), a5], by rw [tk_alS_0 _ _ _ (by decide), a6], fun j hj => by rw [tk_alS_7 _ _ _ hj, a7 j hj]⟩
theorem tk_smT {S S1 S2 : Nat → Nat → Int32} (h : tk_sm S S1 (S 0)) (h2 : tk_sm S1 S2 (S1 0)) : tk_sm S S2 (S 0) := by
  obtain ⟨a0, a1, a2, a3, a4, a5, a6, a7⟩ := h
  obtain ⟨b0, b1, b2, b3, b4, b5, b6, b7⟩ := h2
  exact ⟨by rw [b0, a0], by rw [b1, a1], by rw [b2, a2], by rw [b3, a3], by rw [b4, a4], by rw [b5, a5], by rw [b6, a6], fun j hj => by rw [b7 j hj, a7 j hj]⟩
theorem tk_gv0 {d : Nat → Int32} {u s : Int32} {n k : Nat} (h : k < n) (hk : ¬ d (16 + 6 * k + 1) = 1) : tk_gvr d u (n - k) k s = tk_gvr d u (n - (k + 1)) (k + 1) s := by
  rw [show n - k = (n - (k + 1)) + 1 by omega, tk_gvr, if_neg hk]
theorem tk_gv1 {d : Nat → Int32} {u s g : Int32} {n k : Nat} (h : k < n) (hk : d (16 + 6 * k + 1) = 1) (hg : g = tk_gu d (d (16 + 6 * k + 4)) (d (16 + 6 * k + 2)).toNatClampNeg u) (hn : ¬ g = -100009) : tk_gvr d u (n - k) k s = tk_gvr d u (n - (k + 1)) (k + 1) (s + (g - d (16 + 6 * k + 3))) := by
  rw [show n - k = (n - (k + 1)) + 1 by omega, tk_gvr, if_pos hk, ← hg, if_neg hn]
theorem tk_gvN {d : Nat → Int32} {u s g : Int32} {n k : Nat} (h : k < n) (hk : d (16 + 6 * k + 1) = 1) (hg : g = tk_gu d (d (16 + 6 * k + 4)) (d (16 + 6 * k + 2)).toNatClampNeg u) (hn : g = -100009) : tk_gvr d u (n - k) k s = -100009 := by
  rw [show n - k = (n - (k + 1)) + 1 by omega, tk_gvr, if_pos hk, ← hg, if_pos hn]
theorem tk_gvE {d : Nat → Int32} {u s : Int32} {n k : Nat} (h : n ≤ k) : tk_gvr d u (n - k) k s = s := by
  rw [show n - k = 0 by omega, tk_gvr]
theorem tk_frN {d : Nat → Int32} {f : Int32} {k : Nat} (h : k < 4) (hn : tk_gv d (nI k) = -100009) : tk_fr d (4 - k) k f = -100009 := by
  rw [show 4 - k = (4 - (k + 1)) + 1 by omega, tk_fr, if_pos hn]
theorem tk_fr0 {d : Nat → Int32} {f : Int32} {k : Nat} (h : k < 4) (hn : ¬ tk_gv d (nI k) = -100009) (hf : f = -100009) : tk_fr d (4 - k) k f = tk_fr d (4 - (k + 1)) (k + 1) (nI k) := by
  rw [show 4 - k = (4 - (k + 1)) + 1 by omega, tk_fr, if_neg hn, if_pos hf]
theorem tk_frL {d : Nat → Int32} {f : Int32} {k : Nat} (h : k < 4) (hn : ¬ tk_gv d (nI k) = -100009) (hf : ¬ f = -100009) (hl : tk_far (tk_gv d (nI k)) 0 < tk_far (tk_gv d f) 0) : tk_fr d (4 - k) k f = tk_fr d (4 - (k + 1)) (k + 1) (nI k) := by
  rw [show 4 - k = (4 - (k + 1)) + 1 by omega, tk_fr, if_neg hn, if_neg hf, if_pos hl]
theorem tk_frG {d : Nat → Int32} {f : Int32} {k : Nat} (h : k < 4) (hn : ¬ tk_gv d (nI k) = -100009) (hf : ¬ f = -100009) (hl : ¬ tk_far (tk_gv d (nI k)) 0 < tk_far (tk_gv d f) 0) : tk_fr d (4 - k) k f = tk_fr d (4 - (k + 1)) (k + 1) f := by
  rw [show 4 - k = (4 - (k + 1)) + 1 by omega, tk_fr, if_neg hn, if_neg hf, if_neg hl]
theorem tk_frE {d : Nat → Int32} {f : Int32} {k : Nat} (h : 4 ≤ k) : tk_fr d (4 - k) k f = f := by
  rw [show 4 - k = 0 by omega, tk_fr]
theorem tk_so0 {w m e st so : Int32} {k : Nat} (h : k < 1000) (hs : st = 0) : tk_so w m e (1000 - k) k st so = nI k := by
  rw [show 1000 - k = (1000 - (k + 1)) + 1 by omega, tk_so, if_pos hs]
theorem tk_soS {w m e st so : Int32} {k : Nat} (h : k < 1000) (hs : ¬ st = 0) : tk_so w m e (1000 - k) k st so = tk_so w m e (1000 - (k + 1)) (k + 1) (tk_stk (st - 1) ((so + w) / m) e) ((so + w) - (so + w) / m * m) := by
  rw [show 1000 - k = (1000 - (k + 1)) + 1 by omega, tk_so, if_neg hs]
theorem tk_soE {w m e st so : Int32} {k : Nat} (h : 1000 ≤ k) : tk_so w m e (1000 - k) k st so = -100009 := by
  rw [show 1000 - k = 0 by omega, tk_so]
theorem tk_ahY {d : Nat → Int32} {p q : Nat} (h : tk_bef d q p = true) : nI (tk_ah d p q) + 1 = nI (tk_ah d p (q + 1)) := by rw [tk_ah, if_pos h, nI_1]
theorem tk_ahN {d : Nat → Int32} {p q : Nat} (h : tk_bef d q p = false) : nI (tk_ah d p q) + 0 = nI (tk_ah d p (q + 1)) := by
  rw [tk_ah, if_neg (by rw [h]; decide), Int32.add_zero]
theorem tk_ah_le {d : Nat → Int32} {p : Nat} : ∀ q, tk_ah d p q ≤ q
  | 0 => Nat.le_refl _
  | q + 1 => by
    rw [tk_ah]
    have := tk_ah_le (d := d) (p := p) q
    split <;> omega
theorem tk_nthY {d : Nat → Int32} {np k p : Nat} (hp : p < np) (h : tk_ah d p np = k) : tk_nth d np k (np - p) p = p := by
  rw [show np - p = (np - (p + 1)) + 1 by omega, tk_nth, if_pos h]
theorem tk_nthN {d : Nat → Int32} {np k p : Nat} (hp : p < np) (h : ¬ tk_ah d p np = k) : tk_nth d np k (np - p) p = tk_nth d np k (np - (p + 1)) (p + 1) := by
  rw [show np - p = (np - (p + 1)) + 1 by omega, tk_nth, if_neg h]
theorem tk_befI {d : Nat → Int32} {q p : Nat} : tk_bef d q p = true ↔ ((d (52 + 7 * q)).toInt < (d (52 + 7 * p)).toInt ∨ ((d (52 + 7 * q)).toInt = (d (52 + 7 * p)).toInt ∧ q < p)) := by
  simp only [tk_bef, Bool.or_eq_true, Bool.and_eq_true, decide_eq_true_eq, Int32.lt_iff_toInt_lt, ← Int32.toInt_inj]
theorem tk_ah_mono {d : Nat → Int32} {a b : Nat} : ∀ n, (∀ q, q < n → tk_bef d q a = true → tk_bef d q b = true) → tk_ah d a n ≤ tk_ah d b n
  | 0, _ => Nat.le_refl _
  | n + 1, h => by
    have ih := tk_ah_mono n (fun q hq => h q (by omega))
    rw [tk_ah, tk_ah]
    by_cases ha : tk_bef d n a = true
    · rw [if_pos ha, if_pos (h n (by omega) ha)]; omega
    · rw [if_neg ha]; split <;> omega
theorem tk_ah_lt {d : Nat → Int32} {a b : Nat} : ∀ n, (∀ q, q < n → tk_bef d q a = true → tk_bef d q b = true) → (∃ q, q < n ∧ tk_bef d q b = true ∧ ¬ tk_bef d q a = true) → tk_ah d a n < tk_ah d b n
  | 0, _, h => by obtain ⟨q, h, -⟩ := h; omega
  | n + 1, h, h2 => by
    have im := tk_ah_mono n (fun q hq => h q (by omega))
    rw [tk_ah, tk_ah]
    obtain ⟨q, hq, hb, ha⟩ := h2
    by_cases hqn : q = n
    · subst hqn
      rw [if_neg ha, if_pos hb]; omega
    · have ih := tk_ah_lt n (fun q hq => h q (by omega)) ⟨q, by omega, hb, ha⟩
      by_cases h3 : tk_bef d n a = true
      · rw [if_pos h3, if_pos (h n (by omega) h3)]; omega
      · rw [if_neg h3]; split <;> omega
theorem tk_bef_t {d : Nat → Int32} {a b c : Nat} (h1 : tk_bef d a b = true) (h2 : tk_bef d b c = true) : tk_bef d a c = true := by
  rw [tk_befI] at *
  omega
theorem tk_bef_i {d : Nat → Int32} (a : Nat) : ¬ tk_bef d a a = true := by
  rw [tk_befI]
  omega
theorem tk_bef_o {d : Nat → Int32} {a b : Nat} (h : ¬ tk_bef d a b = true) (hn : a ≠ b) : tk_bef d b a = true := by
  rw [tk_befI] at *
  omega
theorem tk_ah_less {d : Nat → Int32} {n a b : Nat} (ha : a < n) (h : tk_bef d a b = true) : tk_ah d a n < tk_ah d b n :=
  tk_ah_lt n (fun _ _ hq => tk_bef_t hq h) ⟨a, ha, h, tk_bef_i a⟩
theorem tk_ex {d : Nat → Int32} : ∀ (n k : Nat), k < n → ∃ p, p < n ∧ tk_ah d p n = k
  | 0, k, h => by omega
  | n + 1, k, h => by
    have hr : tk_ah d n n ≤ n := tk_ah_le n
    have hnn : tk_ah d n (n + 1) = tk_ah d n n := by rw [tk_ah, if_neg (tk_bef_i n)]
    by_cases h1 : k = tk_ah d n n
    · exact ⟨n, by omega, by rw [hnn, h1]⟩
    · by_cases h2 : k < tk_ah d n n
      · obtain ⟨p, hp, e⟩ := tk_ex n k (by omega)
        refine ⟨p, by omega, ?_⟩
        rw [tk_ah, if_neg, e]
        intro q
        have := tk_ah_mono (d := d) (a := n) (b := p) n (fun x _ hx => tk_bef_t hx q)
        omega
      · obtain ⟨p, hp, e⟩ := tk_ex n (k - 1) (by omega)
        refine ⟨p, by omega, ?_⟩
        rw [tk_ah, if_pos, e]
        · omega
        · apply Classical.byContradiction
          intro q
          have q2 := tk_bef_o q (by omega)
          have := tk_ah_less hp q2
          omega
theorem tk_nx {d : Nat → Int32} {np k p1 : Nat} (hq : ∃ q, p1 ≤ q ∧ q < np ∧ tk_ah d q np = k) (h : ¬ tk_ah d p1 np = k) : (∃ q, p1 + 1 ≤ q ∧ q < np ∧ tk_ah d q np = k) ∧ p1 + 1 < np := by
  obtain ⟨q, a, b, c⟩ := hq
  have : q ≠ p1 := fun z => h (by rw [← z]; exact c)
  exact ⟨⟨q, by omega, b, c⟩, by omega⟩
