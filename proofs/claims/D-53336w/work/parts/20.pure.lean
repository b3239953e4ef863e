/-! what the reference computes, in plain words: d is its array of 284 ints -/
def tk_in (v lo hi : Int32) : Bool := decide (lo ≤ v) && decide (v ≤ hi)
def tk_cus (d : Nat → Int32) (c : Int32) : Bool := tk_in c 0 (d 14 - 1)
def tk_pri (d : Nat → Int32) (c : Int32) : Bool := tk_in c 0 (d 15 - 1)
def tk_fl (a b : Int32) : Int32 := if a - a / b * b < 0 then a / b - 1 else a / b
def tk_rd (load step : Int32) : Int32 := if tk_fl (2 * load + step) (2 * step) < 0 then 0 else tk_fl (2 * load + step) (2 * step) * step
def tk_hi (d : Nat → Int32) (r : Int32) : Int32 := tk_fl (2 * r + d 8 - 1) 2
def tk_lo (d : Nat → Int32) (r : Int32) : Int32 := if r = 0 then -9000000 else tk_fl (2 * r - d 8 + 1) 2
def tk_le (d : Nat → Int32) (r : Int32) (k : Nat) : Int32 := if tk_lo d r - d 9 ≤ 0 then 0 else (tk_lo d r - d 9 + (d k + d (4 + k)) - 1) / (d k + d (4 + k))
def tk_gr (d : Nat → Int32) (r : Int32) (k : Nat) : Int32 := (tk_hi d r + d 9) / (d k - d (4 + k))
def tk_mu (d : Nat → Int32) (r : Int32) : Bool := decide (r - r / d 8 * d 8 = 0)
def tk_al (d : Nat → Int32) (r : Int32) (k : Nat) : Bool := tk_mu d r && decide (tk_le d r k ≤ tk_gr d r k)
def tk_alS (S : Nat → Nat → Int32) (r : Int32) (k : Nat) : Nat → Nat → Int32 := if tk_mu (S 0) r = true then su S 7 (su (su (S 7) 6 (tk_le (S 0) r k)) 7 (tk_gr (S 0) r k)) else S
/-- the count that is nearest to a reading -/
def tk_ne (r w : Int32) : Int32 := if w < 2 * (r - r / w * w) then r / w + 1 else r / w
def tk_gu (d : Nat → Int32) (r : Int32) (k : Nat) (rule : Int32) : Int32 :=
  if tk_al d r k = false then -100009 else if rule = 1 then tk_le d r k else if rule = 2 then tk_gr d r k else if rule = 3 then (tk_le d r k + tk_gr d r k) / 2
  else if tk_ne r (d k) < tk_le d r k then tk_le d r k else if tk_gr d r k < tk_ne r (d k) then tk_gr d r k else tk_ne r (d k)
def tk_far (a b : Int32) : Int32 := if a < b then b - a else a - b
def tk_stk (stock boxes each : Int32) : Int32 := if (99 : Int64) < stock.toInt64 + boxes.toInt64 * each.toInt64 then 99 else (stock.toInt64 + boxes.toInt64 * each.toInt64).toInt32
/-- what is the same but d and the two scratch numbers -/
def tk_sm (S S' : Nat → Nat → Int32) (d' : Nat → Int32) : Prop := S' 0 = d' ∧ S' 1 = S 1 ∧ S' 2 = S 2 ∧ S' 3 = S 3 ∧ S' 4 = S 4 ∧ S' 5 = S 5 ∧ S' 6 = S 6 ∧ ∀ j, j < 6 → S' 7 j = S 7 j
def tk_ok (B : Nat) (d : Nat → Int32) : Prop :=
  (∀ k, k < 4 → 100 ≤ (d k).toInt ∧ (d k).toInt ≤ 5000 ∧ 0 ≤ (d (4 + k)).toInt ∧ (d (4 + k)).toInt ≤ 50) ∧
  (1 ≤ (d 8).toInt ∧ (d 8).toInt ≤ 1000) ∧ (0 ≤ (d 9).toInt ∧ (d 9).toInt ≤ 2000) ∧ (-(d 9).toInt ≤ (d 10).toInt ∧ (d 10).toInt ≤ (d 9).toInt) ∧
  (0 ≤ (d 11).toInt ∧ (d 11).toInt ≤ 3) ∧ (0 ≤ (d 12).toInt ∧ (d 12).toInt ≤ 100) ∧ (0 ≤ (d 14).toInt ∧ (d 14).toInt ≤ 6) ∧ (0 ≤ (d 15).toInt ∧ (d 15).toInt ≤ 6) ∧
  (∀ c : Nat, (c : Int) < (d 14).toInt → 0 ≤ (d (16 + 6 * c)).toInt ∧ (d (16 + 6 * c)).toInt ≤ B ∧ (d (16 + 6 * c + 1) = 0 ∨ (d (16 + 6 * c + 1) = 1 ∧
    (0 ≤ (d (16 + 6 * c + 2)).toInt ∧ (d (16 + 6 * c + 2)).toInt ≤ 3) ∧ (1 ≤ (d (16 + 6 * c + 3)).toInt ∧ (d (16 + 6 * c + 3)).toInt ≤ 500) ∧
    (0 ≤ (d (16 + 6 * c + 4)).toInt ∧ (d (16 + 6 * c + 4)).toInt ≤ 3000000) ∧ (0 ≤ (d (16 + 6 * c + 5)).toInt ∧ (d (16 + 6 * c + 5)).toInt ≤ 60000)))) ∧
  (∀ p : Nat, (p : Int) < (d 15).toInt → (1 ≤ (d (52 + 7 * p)).toInt ∧ (d (52 + 7 * p)).toInt ≤ 5000) ∧ (1 ≤ (d (52 + 7 * p + 1)).toInt ∧ (d (52 + 7 * p + 1)).toInt ≤ 20000) ∧
    (0 ≤ (d (52 + 7 * p + 2)).toInt ∧ (d (52 + 7 * p + 2)).toInt ≤ 99) ∧ (1 ≤ (d (52 + 7 * p + 3)).toInt ∧ (d (52 + 7 * p + 3)).toInt ≤ 100000) ∧
    (1 ≤ (d (52 + 7 * p + 4)).toInt ∧ (d (52 + 7 * p + 4)).toInt ≤ 100000) ∧ (0 ≤ (d (52 + 7 * p + 5)).toInt ∧ (d (52 + 7 * p + 5)).toInt < (d (52 + 7 * p + 3)).toInt))
theorem tk_inI {v lo hi : Int32} (h : tk_in v lo hi = true) : lo.toInt ≤ v.toInt ∧ v.toInt ≤ hi.toInt := by
  simp only [tk_in, Bool.and_eq_true, decide_eq_true_eq, Int32.le_iff_toInt_le] at h
  exact h
theorem tk_nIof {x : Int32} {n : Nat} (h0 : 0 ≤ x.toInt) (h1 : x.toInt ≤ n) : ∃ j, j ≤ n ∧ (j : Int) = x.toInt ∧ x = nI j := by
  have hj : x.toInt.toNat < 2 ^ 31 := by have := x.toInt_lt; omega
  refine ⟨x.toInt.toNat, by omega, by omega, Int32.toInt_inj.mp ?_⟩
  rw [nI_toInt hj]
  omega
theorem tk_inN {v : Int32} {n : Nat} {hi : Int32} (hh : hi.toInt = n) (h : tk_in v 0 hi = true) : ∃ j, j ≤ n ∧ v = nI j := by
  have := tk_inI h
  obtain ⟨j, h1, -, h2⟩ := tk_nIof (x := v) (n := n) (by simpa using this.1) (by omega)
  exact ⟨j, h1, h2⟩
theorem tk_k4 {v : Int32} (h : tk_in v 0 3 = true) : ∃ j, j < 4 ∧ v = nI j := by
  obtain ⟨j, h1, h2⟩ := tk_inN (n := 3) (by decide) h
  exact ⟨j, by omega, h2⟩
section OK
variable {B : Nat} {d : Nat → Int32}
theorem ok_n (h : tk_ok B d) : ∃ n, n ≤ 6 ∧ d 14 = nI n ∧ (d 14).toNatClampNeg = n ∧ (d 14).toInt = n := by
  obtain ⟨n, h1, h2, h3⟩ := tk_nIof (x := d 14) (n := 6) h.2.2.2.2.2.2.1.1 h.2.2.2.2.2.2.1.2
  exact ⟨n, h1, h3, by rw [h3, nI_clamp (by omega)], h2.symm⟩
theorem ok_p (h : tk_ok B d) : ∃ n, n ≤ 6 ∧ d 15 = nI n ∧ (d 15).toNatClampNeg = n ∧ (d 15).toInt = n := by
  obtain ⟨n, h1, h2, h3⟩ := tk_nIof (x := d 15) (n := 6) h.2.2.2.2.2.2.2.1.1 h.2.2.2.2.2.2.2.1.2
  exact ⟨n, h1, h3, by rw [h3, nI_clamp (by omega)], h2.symm⟩
theorem ok_sub1 {x : Int32} {n : Nat} (h : x.toInt = n) (hn : n ≤ 6) : (x - 1).toInt = (n : Int) - 1 := by
  rw [Int32.toInt_sub, h]
  have : (1 : Int32).toInt = 1 := by decide
  rw [this]
  exact Int.bmod_eq_of_le (by omega) (by omega)
theorem ok_cus (h : tk_ok B d) {c : Int32} (hc : tk_cus d c = true) : ∃ j : Nat, j < 6 ∧ (j : Int) < (d 14).toInt ∧ c = nI j := by
  obtain ⟨n, h1, -, -, h2⟩ := ok_n h
  have h3 := tk_inI hc
  rw [ok_sub1 h2 h1] at h3
  have : (0 : Int32).toInt = 0 := by decide
  obtain ⟨j, a, b, e⟩ := tk_nIof (x := c) (n := 5) (by omega) (by omega)
  exact ⟨j, by omega, by omega, e⟩
theorem ok_pri (h : tk_ok B d) {c : Int32} (hc : tk_pri d c = true) : ∃ j : Nat, j < 6 ∧ (j : Int) < (d 15).toInt ∧ c = nI j := by
  obtain ⟨n, h1, -, -, h2⟩ := ok_p h
  have h3 := tk_inI hc
  rw [ok_sub1 h2 h1] at h3
  have : (0 : Int32).toInt = 0 := by decide
  obtain ⟨j, a, b, e⟩ := tk_nIof (x := c) (n := 5) (by omega) (by omega)
  exact ⟨j, by omega, by omega, e⟩
theorem ne0 {x : Int32} (h : 1 ≤ x.toInt) : ¬ x = 0 := fun q => by rw [q] at h; exact absurd h (by decide)
theorem ok_step (h : tk_ok B d) : ¬ d 8 = 0 := ne0 h.2.1.1
theorem ok_step2 (h : tk_ok B d) : ¬ 2 * d 8 = 0 := by
  refine ne0 ?_
  have := h.2.1
  rw [Int32.toInt_mul, show (2 : Int32).toInt = 2 from by decide, Int.bmod_eq_of_le (by omega) (by omega)]
  omega
theorem ok_w (h : tk_ok B d) {k : Nat} (hk : k < 4) : ¬ d k = 0 := ne0 (by have := h.1 k hk; omega)
theorem ok_heavy (h : tk_ok B d) {k : Nat} (hk : k < 4) : ¬ d k + d (4 + k) = 0 := by
  refine ne0 ?_
  have := h.1 k hk
  rw [Int32.toInt_add, Int.bmod_eq_of_le (by omega) (by omega)]
  omega
theorem ok_light (h : tk_ok B d) {k : Nat} (hk : k < 4) : ¬ d k - d (4 + k) = 0 := by
  refine ne0 ?_
  have := h.1 k hk
  rw [Int32.toInt_sub, Int.bmod_eq_of_le (by omega) (by omega)]
  omega
end OK
theorem tk_alS_0 (S : Nat → Nat → Int32) (r : Int32) (k : Nat) {j : Nat} (h : j ≠ 7) : tk_alS S r k j = S j := by
  unfold tk_alS
  split
  · exact su_n _ _ h
  · rfl
theorem tk_alS_7 (S : Nat → Nat → Int32) (r : Int32) (k : Nat) {j : Nat} (h : j < 6) : tk_alS S r k 7 j = S 7 j := by
  unfold tk_alS
  split
  · rw [su_s, su_n _ _ (by omega), su_n _ _ (by omega)]
  · rfl
theorem tk_alS_6 {S : Nat → Nat → Int32} {r : Int32} {k : Nat} (h : tk_al (S 0) r k = true) : tk_alS S r k 7 6 = tk_le (S 0) r k := by
  simp only [tk_al, Bool.and_eq_true] at h
  rw [tk_alS, if_pos h.1, su_s, su_n _ _ (by decide), su_s]
theorem tk_alS_g {S : Nat → Nat → Int32} {r : Int32} {k : Nat} (h : tk_al (S 0) r k = true) : tk_alS S r k 7 7 = tk_gr (S 0) r k := by
  simp only [tk_al, Bool.and_eq_true] at h
  rw [tk_alS, if_pos h.1, su_s, su_s]
/-! the actions: answer and new array -/
def tk_kinds (d : Nat → Int32) (k w s : Int32) : Int32 × (Nat → Int32) := if (tk_in k 0 3 && tk_in w 100 5000 && tk_in s 0 50) = false then (-100001, d) else (d k.toNatClampNeg, upd (upd d k.toNatClampNeg w) (4 + k.toNatClampNeg) s)
def tk_scales (d : Nat → Int32) (st li : Int32) : Int32 × (Nat → Int32) := if (tk_in st 1 1000 && tk_in li 0 2000) = false then (-100001, d) else
  (if li < d 10 then li else if d 10 < -li then -li else d 10, upd (upd (upd d 8 st) 9 li) 10 (if li < d 10 then li else if d 10 < -li then -li else d 10))
def tk_sets (d : Nat → Int32) (place : Nat) (v lo hi : Int32) : Int32 × (Nat → Int32) := if tk_in v lo hi = false then (-100001, d) else (d place, upd d place v)
def tk_comes (d : Nat → Int32) (p : Int32) : Int32 × (Nat → Int32) := if tk_in p 0 9999 = false then (-100001, d) else if d 14 = 6 then (-100003, d) else
  (d 14 + 1 - 1, upd (upd (upd d (16 + 6 * (d 14).toNatClampNeg) p) (16 + 6 * (d 14).toNatClampNeg + 1) 0) 14 (d 14 + 1))
def tk_leaves (d : Nat → Int32) (c : Int32) : Int32 × (Nat → Int32) := if tk_cus d c = false then (-100001, d) else
  (d (16 + 6 * c.toNatClampNeg), fun i => if 16 + 6 * c.toNatClampNeg ≤ i ∧ i + 6 < 16 + 6 * (d 14).toNatClampNeg then d (i + 6) else if i = 14 then d 14 - 1 else d i)
def tk_weighW (d : Nat → Int32) (j : Nat) (k n r g : Int32) : Nat → Int32 := upd (upd (upd (upd (upd (upd (upd d (16 + 6 * j) (d (16 + 6 * j) + g)) (16 + 6 * j + 1) 1) (16 + 6 * j + 2) k) (16 + 6 * j + 3) n) (16 + 6 * j + 4) r) (16 + 6 * j + 5) g) 13 (d 13 + (g - n))
def tk_weighR (d : Nat → Int32) (k n dev : Int32) : Int32 := tk_rd (n * d k.toNatClampNeg + dev + d 10) (d 8)
def tk_weighs (d : Nat → Int32) (c k n dev : Int32) : Int32 × (Nat → Int32) := if (tk_cus d c && tk_in k 0 3 && tk_in n 1 500 && tk_in dev (-n * d (4 + k.toNatClampNeg)) (n * d (4 + k.toNatClampNeg))) = false then (-100001, d) else
  (tk_gu d (tk_weighR d k n dev) k.toNatClampNeg (d 11), tk_weighW d c.toNatClampNeg k n (tk_weighR d k n dev) (tk_gu d (tk_weighR d k n dev) k.toNatClampNeg (d 11)))
/-- the points behind a loss -/
def tk_less (p t g : Int32) : Int32 := if p + t - g < 0 then 0 else p + t - g
def tk_claims (d : Nat → Int32) (c n : Int32) : Int32 × (Nat → Int32) :=
  let j := 16 + 6 * c.toNatClampNeg
  if (tk_cus d c && tk_in n 0 9999) = false then (-100001, d) else if d (j + 1) = 0 ∨ n = d (j + 5) then (-100002, d) else
  if (tk_al d (d (j + 4)) (d (j + 2)).toNatClampNeg && tk_in n (tk_le d (d (j + 4)) (d (j + 2)).toNatClampNeg) (tk_gr d (d (j + 4)) (d (j + 2)).toNatClampNeg)) = false then (0, upd d (j + 1) 0) else
  if tk_far n (d (j + 3)) < tk_far (d (j + 5)) (d (j + 3)) then (1, upd (upd (upd d (j + 1) 0) 13 (d 13 + (d (j + 3) - d (j + 5)))) j (tk_less (d j) (d (j + 3)) (d (j + 5)))) else
  (2, upd (upd (upd d (j + 1) 0) 13 (d 13 + (d (j + 3) - d (j + 5)))) j (if tk_less (d j) (d (j + 3)) (d (j + 5)) < d 12 then 0 else tk_less (d j) (d (j + 3)) (d (j + 5)) - d 12))
def tk_adds (d : Nat → Int32) (p w s m b : Int32) : Int32 × (Nat → Int32) := if (tk_in p 1 5000 && tk_in w 1 20000 && tk_in s 0 99 && tk_in m 1 100000 && tk_in b 1 100000) = false then (-100001, d) else if d 15 = 6 then (-100003, d) else
  (d 15 + 1 - 1, upd (upd (upd (upd (upd (upd (upd (upd d (52 + 7 * (d 15).toNatClampNeg) p) (52 + 7 * (d 15).toNatClampNeg + 1) w) (52 + 7 * (d 15).toNatClampNeg + 2) s) (52 + 7 * (d 15).toNatClampNeg + 3) m) (52 + 7 * (d 15).toNatClampNeg + 4) b) (52 + 7 * (d 15).toNatClampNeg + 5) 0) (52 + 7 * (d 15).toNatClampNeg + 6) 0) 15 (d 15 + 1))
def tk_rems (d : Nat → Int32) (c : Int32) : Int32 × (Nat → Int32) := if tk_pri d c = false then (-100001, d) else
  (d (52 + 7 * c.toNatClampNeg + 2), fun i => if 52 + 7 * c.toNatClampNeg ≤ i ∧ i + 7 < 52 + 7 * (d 15).toNatClampNeg then d (i + 7) else if i = 15 then d 15 - 1 else d i)
def tk_price (d : Nat → Int32) (c v : Int32) : Int32 × (Nat → Int32) := if tk_pri d c = false then (-100001, d) else tk_sets d (52 + 7 * c.toNatClampNeg) v 1 5000
def tk_buyW (d : Nat → Int32) (c p : Nat) (n : Int32) : Nat → Int32 :=
  let s := d (52 + 7 * p + 5) + n * d (52 + 7 * p + 1)
  upd (upd (upd (upd d (16 + 6 * c) (d (16 + 6 * c) - n * d (52 + 7 * p))) (52 + 7 * p + 5) (s - s / d (52 + 7 * p + 3) * d (52 + 7 * p + 3))) (52 + 7 * p + 2) (tk_stk (d (52 + 7 * p + 2) - n) (s / d (52 + 7 * p + 3)) (d (52 + 7 * p + 4) / d (52 + 7 * p + 1)))) (52 + 7 * p + 6) (d (52 + 7 * p + 6) + s / d (52 + 7 * p + 3))
def tk_buys (d : Nat → Int32) (c p n : Int32) : Int32 × (Nat → Int32) := if (tk_cus d c && tk_pri d p && tk_in n 1 99) = false then (-100001, d) else
  if d (16 + 6 * c.toNatClampNeg) < n * d (52 + 7 * p.toNatClampNeg) then (-100002, d) else if d (52 + 7 * p.toNatClampNeg + 2) < n then (-100003, d) else
  (d (16 + 6 * c.toNatClampNeg) - n * d (52 + 7 * p.toNatClampNeg), tk_buyW d c.toNatClampNeg p.toNatClampNeg n)
def tk_sum (f : Nat → Int32) : Nat → Int32
  | 0 => 0
  | n + 1 => tk_sum f n + f n
def tk_pts (d : Nat → Int32) : Int32 := tk_sum (fun c => d (16 + 6 * c)) (d 14).toNatClampNeg
def tk_takes (d : Nat → Int32) (s : Int32) : Int32 × (Nat → Int32) := if tk_in s 0 1 = false then (-100001, d) else
  (tk_pts d, fun i => if i = 94 + 95 * s.toNatClampNeg then 1 else if 95 + 95 * s.toNatClampNeg ≤ i ∧ i < 189 + 95 * s.toNatClampNeg then d (i - (95 + 95 * s.toNatClampNeg)) else d i)
def tk_rests (d : Nat → Int32) (s : Int32) : Int32 × (Nat → Int32) := if tk_in s 0 1 = false then (-100001, d) else if d (94 + 95 * s.toNatClampNeg) = 0 then (-100002, d) else
  (tk_pts (fun i => d (95 + 95 * s.toNatClampNeg + i)), fun i => if i < 94 then d (95 + 95 * s.toNatClampNeg + i) else d i)
/-- the past: n states, each of 284 ints, and one more -/
def tk_pn (n : Nat) : Nat := if n = 5 then 5 else n + 1
def tk_pw (n : Nat) (w x : Nat → Int32) : Nat → Int32 := fun j => if n = 5 then (if j < 1136 then w (j + 284) else if j < 1420 then x (j - 1136) else w j) else (if 284 * n ≤ j ∧ j < 284 * n + 284 then x (j - 284 * n) else w j)
def tk_cp (f g : Nat → Int32) (n : Nat) : Nat → Int32 := fun j => if j < n then f j else g j
/-- an action is over: its answer r, the array d'; x is what is kept of the state ahead of it -/
def tk_top (S S' : Nat → Nat → Int32) (n : Nat) (x : Nat → Int32) (r : Int32) (d' : Nat → Int32) : Prop :=
  S' 0 = d' ∧ S' 4 = S 4 ∧ S' 5 = S 5 ∧ S' 7 1 = S 7 1 ∧ S' 7 2 = S 7 2 ∧ (if -100001 < r then S' 7 0 = nI (tk_pn n) ∧ S' 3 = tk_pw n (S 3) x else S' 7 0 = S 7 0 ∧ S' 3 = S 3)
theorem updd (f : Nat → Int32) (k : Nat) (x y : Int32) : upd (upd f k x) k y = upd f k y := by
  funext j
  simp only [upd]
  by_cases h : j = k
  · rw [if_pos h, if_pos h]
  · rw [if_neg h, if_neg h, if_neg h]
theorem tk_cp_0 (f g : Nat → Int32) : tk_cp f g 0 = g := by funext j; simp [tk_cp]
theorem tk_cp_s (f g : Nat → Int32) (k : Nat) : upd (tk_cp f g k) k (f k) = tk_cp f g (k + 1) := by
  funext j
  simp only [upd, tk_cp]
  by_cases h : j = k
  · subst h; simp
  · rw [if_neg h]; by_cases h2 : j < k
    · rw [if_pos h2, if_pos (by omega)]
    · rw [if_neg h2, if_neg (by omega)]
/-- w shifted down by c, as far as k -/
def tk_sh (w : Nat → Int32) (a c k : Nat) : Nat → Int32 := fun j => if a ≤ j ∧ j < k then w (j + c) else w j
theorem tk_sh_0 (w : Nat → Int32) (a c : Nat) : tk_sh w a c a = w := by funext j; simp only [tk_sh]; rw [if_neg (by omega)]
theorem tk_sh_s (w : Nat → Int32) (a c k : Nat) (h : a ≤ k) : upd (tk_sh w a c k) k (w (k + c)) = tk_sh w a c (k + 1) := by
  funext j
  simp only [upd, tk_sh]
  by_cases h1 : j = k
  · subst h1; rw [if_pos rfl, if_pos (by omega)]
  · rw [if_neg h1]; by_cases h2 : a ≤ j ∧ j < k
    · rw [if_pos h2, if_pos (by omega)]
    · rw [if_neg h2, if_neg (by omega)]
theorem tk_sh_r (w : Nat → Int32) {a c k : Nat} (h : 0 < c) : tk_sh w a c k (k + c) = w (k + c) := by simp only [tk_sh]; rw [if_neg (by omega)]
/-- x put into w from b on, k places -/
def tk_pt (w x : Nat → Int32) (b k : Nat) : Nat → Int32 := fun j => if b ≤ j ∧ j < b + k then x (j - b) else w j
theorem tk_pt_0 (w x : Nat → Int32) (b : Nat) : tk_pt w x b 0 = w := by funext j; simp only [tk_pt]; rw [if_neg (by omega)]
theorem tk_pt_s (w x : Nat → Int32) (b k : Nat) : upd (tk_pt w x b k) (b + k) (x k) = tk_pt w x b (k + 1) := by
  funext j
  simp only [upd, tk_pt]
  by_cases h1 : j = b + k
  · subst h1; rw [if_pos rfl, if_pos (by omega), show b + k - b = k by omega]
  · rw [if_neg h1]; by_cases h2 : b ≤ j ∧ j < b + k
    · rw [if_pos h2, if_pos (by omega)]
    · rw [if_neg h2, if_neg (by omega)]
theorem tk_pw_n {n : Nat} (h : n ≠ 5) (w x : Nat → Int32) : tk_pt w x (284 * n) 284 = tk_pw n w x := by funext j; simp only [tk_pt, tk_pw, if_neg h]
theorem tk_pw_5 (w x : Nat → Int32) : tk_pt (tk_sh w 0 284 1136) x (284 * 4) 284 = tk_pw 5 w x := by
  funext j
  simp only [tk_pt, tk_pw, tk_sh, if_true]
  by_cases h : j < 1136
  · rw [if_neg (by omega), if_pos h, if_pos (by omega)]
  · rw [if_neg (show ¬ j < 1136 from h)]
    by_cases h2 : j < 1420
    · rw [if_pos (by omega), if_pos h2]
    · rw [if_neg (by omega), if_neg h2, if_neg (by omega)]
/-- a state x is recorded behind n others -/
def tk_pu (S S' : Nat → Nat → Int32) (n : Nat) (x : Nat → Int32) : Prop := (∀ j, j ≠ 3 → j ≠ 7 → S' j = S j) ∧ (∀ j, j ≠ 0 → S' 7 j = S 7 j) ∧ S' 7 0 = nI (tk_pn n) ∧ S' 3 = tk_pw n (S 3) x
def tk_ac (S S' : Nat → Nat → Int32) (n : Nat) (r : Int32) : Prop := (-100001 < r → tk_pu S S' n (S 1)) ∧ (¬ -100001 < r → S' = S)
theorem tk_topI {S S1 S2 S3 : Nat → Nat → Int32} {n : Nat} {r : Int32} {d' : Nat → Int32} (h1 : S1 = su S 1 (tk_cp (S 0) (S 1) 284)) (h2 : tk_sm S1 S2 d') (h3 : tk_ac S2 S3 n r) : tk_top S S3 n (tk_cp (S 0) (S 1) 284) r d' := by
  subst h1
  obtain ⟨a0, a1, a2, a3, a4, a5, a6, a7⟩ := h2
  by_cases h : -100001 < r
  · obtain ⟨b1, b2, b3, b4⟩ := h3.1 h
    refine ⟨by rw [b1 _ (by decide) (by decide), a0], by rw [b1 _ (by decide) (by decide), a4]; rfl, by rw [b1 _ (by decide) (by decide), a5]; rfl, by rw [b2 _ (by decide), a7 _ (by decide)]; rfl, by rw [b2 _ (by decide), a7 _ (by decide)]; rfl, ?_⟩
    rw [if_pos h]
    refine ⟨b3, ?_⟩
    rw [b4, a3, a1]
    rfl
  · have h4 := h3.2 h
    subst h4
    refine ⟨a0, a4, a5, by rw [a7 _ (by decide)]; rfl, by rw [a7 _ (by decide)]; rfl, ?_⟩
    rw [if_neg h]
    exact ⟨by rw [a7 _ (by decide)]; rfl, a3⟩
theorem tk_smr (S : Nat → Nat → Int32) : tk_sm S S (S 0) := ⟨rfl, rfl, rfl, rfl, rfl, rfl, rfl, fun _ _ => rfl⟩
theorem tk_smR {S : Nat → Nat → Int32} {d' : Nat → Int32} (h : S 0 = d') : tk_sm S S d' := ⟨h, rfl, rfl, rfl, rfl, rfl, rfl, fun _ _ => rfl⟩
theorem tk_smE {S : Nat → Nat → Int32} {x d' : Nat → Int32} (h : x = d') : tk_sm S (su S 0 x) d' := ⟨h, rfl, rfl, rfl, rfl, rfl, rfl, fun _ _ => rfl⟩
theorem tk_smA {S : Nat → Nat → Int32} {r : Int32} {k : Nat} {x d' : Nat → Int32} (h : x = d') : tk_sm S (su (tk_alS S r k) 0 x) d' :=
  ⟨by rw [su_s, h], by rw [su_n _ _ (by decide), tk_alS_0 _ _ _ (by decide)], by rw [su_n _ _ (by decide), tk_alS_0 _ _ _ (by decide)], by rw [su_n _ _ (by decide), tk_alS_0 _ _ _ (by decide)], by rw [su_n _ _ (by decide), tk_alS_0 _ _ _ (by decide)], by rw [su_n _ _ (by decide), tk_alS_0 _ _ _ (by decide)], by rw [su_n _ _ (by decide), tk_alS_0 _ _ _ (by decide)], fun j h => by rw [su_n _ _ (by decide), tk_alS_7 _ _ _ h]⟩
theorem ok_kind {B : Nat} {d : Nat → Int32} (h : tk_ok B d) {j : Nat} (hj : (j : Int) < (d 14).toInt) (hn : ¬ d (16 + 6 * j + 1) = 0) : ∃ k, k < 4 ∧ d (16 + 6 * j + 2) = nI k ∧ (d (16 + 6 * j + 2)).toNatClampNeg = k := by
  obtain ⟨-, -, h3⟩ := h.2.2.2.2.2.2.2.2.1 j hj
  rcases h3 with h3 | ⟨-, h4, -⟩
  · exact absurd h3 hn
  · obtain ⟨k, a, b, e⟩ := tk_nIof (x := d (16 + 6 * j + 2)) (n := 3) h4.1 h4.2
    exact ⟨k, by omega, e, by rw [e, nI_clamp (by omega)]⟩
theorem ok_unkeep {B : Nat} {d : Nat → Int32} (h : tk_ok B d) {i : Nat} (hi : i < 6) : tk_ok B (upd d (16 + 6 * i + 1) 0) := by
  have u : ∀ x, x ≠ 16 + 6 * i + 1 → upd d (16 + 6 * i + 1) 0 x = d x := fun x hx => pk_un hx
  obtain ⟨h1, h2, h3, h4, h5, h6, h7, h8, h9, h10⟩ := h
  refine ⟨fun k hk => ?_, ?_, ?_, ?_, ?_, ?_, ?_, ?_, fun c hc => ?_, fun p hp => ?_⟩
  · rw [u _ (by omega), u _ (by omega)]; exact h1 k hk
  · rw [u _ (by omega)]; exact h2
  · rw [u _ (by omega)]; exact h3
  · rw [u _ (by omega), u _ (by omega)]; exact h4
  · rw [u _ (by omega)]; exact h5
  · rw [u _ (by omega)]; exact h6
  · rw [u _ (by omega)]; exact h7
  · rw [u _ (by omega)]; exact h8
  · rw [u 14 (by omega)] at hc
    have q := h9 c hc
    rw [u (16 + 6 * c) (by omega)]
    refine ⟨q.1, q.2.1, ?_⟩
    by_cases hci : c = i
    · subst hci; exact Or.inl pk_us
    · rw [u (16 + 6 * c + 1) (by omega), u (16 + 6 * c + 2) (by omega), u (16 + 6 * c + 3) (by omega), u (16 + 6 * c + 4) (by omega), u (16 + 6 * c + 5) (by omega)]
      exact q.2.2
  · rw [u 15 (by omega)] at hp
    have q := h10 p hp
    rw [u (52 + 7 * p) (by omega), u (52 + 7 * p + 1) (by omega), u (52 + 7 * p + 2) (by omega), u (52 + 7 * p + 3) (by omega), u (52 + 7 * p + 4) (by omega), u (52 + 7 * p + 5) (by omega)]
    exact q
theorem tk_lo_u {d d' : Nat → Int32} (r : Int32) (h : d' 8 = d 8) : tk_lo d' r = tk_lo d r := by unfold tk_lo; rw [h]
theorem tk_hi_u {d d' : Nat → Int32} (r : Int32) (h : d' 8 = d 8) : tk_hi d' r = tk_hi d r := by unfold tk_hi; rw [h]
theorem tk_mu_u {d d' : Nat → Int32} (r : Int32) (h : d' 8 = d 8) : tk_mu d' r = tk_mu d r := by unfold tk_mu; rw [h]
theorem tk_le_u {d d' : Nat → Int32} (r : Int32) {k : Nat} (h : d' 8 = d 8) (h9 : d' 9 = d 9) (hk : d' k = d k) (h4 : d' (4 + k) = d (4 + k)) : tk_le d' r k = tk_le d r k := by unfold tk_le; rw [tk_lo_u r h, h9, hk, h4]
theorem tk_gr_u {d d' : Nat → Int32} (r : Int32) {k : Nat} (h : d' 8 = d 8) (h9 : d' 9 = d 9) (hk : d' k = d k) (h4 : d' (4 + k) = d (4 + k)) : tk_gr d' r k = tk_gr d r k := by unfold tk_gr; rw [tk_hi_u r h, h9, hk, h4]
theorem tk_al_v {d d' : Nat → Int32} (r : Int32) {k : Nat} (h : d' 8 = d 8) (h9 : d' 9 = d 9) (hk : d' k = d k) (h4 : d' (4 + k) = d (4 + k)) : tk_al d' r k = tk_al d r k := by unfold tk_al; rw [tk_mu_u r h, tk_le_u r h h9 hk h4, tk_gr_u r h h9 hk h4]
theorem tk_al_u {d : Nat → Int32} {r : Int32} {k i : Nat} (hk : k < 4) (hi : 16 ≤ i) (v : Int32) : tk_al (upd d i v) r k = tk_al d r k ∧ tk_le (upd d i v) r k = tk_le d r k ∧ tk_gr (upd d i v) r k = tk_gr d r k := by
  have u : ∀ x, x ≠ i → upd d i v x = d x := fun x hx => pk_un hx
  exact ⟨tk_al_v r (u 8 (by omega)) (u 9 (by omega)) (u k (by omega)) (u (4 + k) (by omega)), tk_le_u r (u 8 (by omega)) (u 9 (by omega)) (u k (by omega)) (u (4 + k) (by omega)), tk_gr_u r (u 8 (by omega)) (u 9 (by omega)) (u k (by omega)) (u (4 + k) (by omega))⟩
theorem tk_smB {S : Nat → Nat → Int32} {u : Nat → Int32} {r : Int32} {k : Nat} {x d' : Nat → Int32} (h : x = d') : tk_sm S (su (tk_alS (su S 0 u) r k) 0 x) d' := by
  obtain ⟨a0, a1, a2, a3, a4, a5, a6, a7⟩ := tk_smA (S := su S 0 u) (r := r) (k := k) h
  exact ⟨a0, a1, a2, a3, a4, a5, a6, a7⟩
theorem tk_smC {S : Nat → Nat → Int32} {u : Nat → Int32} {r : Int32} {k : Nat} {d' : Nat → Int32} (h : u = d') : tk_sm S (tk_alS (su S 0 u) r k) d' :=
  ⟨by rw [tk_alS_0 _ _ _ (by decide), su_s, h], by rw [tk_alS_0 _ _ _ (by decide)]; rfl, by rw [tk_alS_0 _ _ _ (by decide)]; rfl, by rw [tk_alS_0 _ _ _ (by decide)]; rfl, by rw [tk_alS_0 _ _ _ (by decide)]; rfl, by rw [tk_alS_0 _ _ _ (by decide)]; rfl, by rw [tk_alS_0 _ _ _ (by decide)]; rfl, fun j h => by rw [tk_alS_7 _ _ _ h]; rfl⟩
theorem tk_sh_o (w : Nat → Int32) {a c k j : Nat} (h : j < a) : tk_sh w a c k j = w j := by simp only [tk_sh]; rw [if_neg (by omega)]
theorem tk_sh_h (w : Nat → Int32) {a c k j : Nat} (h : k ≤ j) : tk_sh w a c k j = w j := by simp only [tk_sh]; rw [if_neg (by omega)]
theorem tk_leaveE {d : Nat → Int32} {j n : Nat} {v : Int32} (h : j < n) : tk_sh (upd d 14 v) (16 + 6 * j) 6 (16 + 6 * (n - 1)) = fun i => if 16 + 6 * j ≤ i ∧ i + 6 < 16 + 6 * n then d (i + 6) else if i = 14 then v else d i := by
  funext i
  simp only [tk_sh, upd]
  by_cases h1 : 16 + 6 * j ≤ i ∧ i + 6 < 16 + 6 * n
  · rw [if_pos (by omega), if_pos h1, if_neg (by omega)]
  · rw [if_neg (by omega), if_neg h1]
theorem tk_remE {d : Nat → Int32} {j n : Nat} {v : Int32} (h : j < n) : tk_sh (upd d 15 v) (52 + 7 * j) 7 (52 + 7 * (n - 1)) = fun i => if 52 + 7 * j ≤ i ∧ i + 7 < 52 + 7 * n then d (i + 7) else if i = 15 then v else d i := by
  funext i
  simp only [tk_sh, upd]
  by_cases h1 : 52 + 7 * j ≤ i ∧ i + 7 < 52 + 7 * n
  · rw [if_pos (by omega), if_pos h1, if_neg (by omega)]
  · rw [if_neg (by omega), if_neg h1]
theorem ok_mark {B : Nat} {d : Nat → Int32} (h : tk_ok B d) {p : Nat} (hp : (p : Int) < (d 15).toInt) : ¬ d (52 + 7 * p + 3) = 0 ∧ ¬ d (52 + 7 * p + 1) = 0 ∧ ¬ d (52 + 7 * p) = 0 := by
  have q := h.2.2.2.2.2.2.2.2.2 p hp
  exact ⟨ne0 q.2.2.2.1.1, ne0 q.2.1.1, ne0 q.1.1⟩
theorem tk_smG {S S' : Nat → Nat → Int32} {d' : Nat → Int32} (h0 : S' 0 = d') (h : ∀ j, j ≠ 0 → S' j = S j) : tk_sm S S' d' :=
  ⟨h0, h 1 (by decide), h 2 (by decide), h 3 (by decide), h 4 (by decide), h 5 (by decide), h 6 (by decide), fun j _ => by rw [h 7 (by decide)]⟩
theorem tk_topR {S : Nat → Nat → Int32} {n : Nat} {x : Nat → Int32} {r : Int32} {d' : Nat → Int32} (hr : ¬ -100001 < r) (h : S 0 = d') : tk_top S S n x r d' := ⟨h, rfl, rfl, rfl, rfl, by rw [if_neg hr]; exact ⟨rfl, rfl⟩⟩
theorem tk_pt_o (w x : Nat → Int32) {b k j : Nat} (h : j < b) : tk_pt w x b k j = w j := by simp only [tk_pt]; rw [if_neg (by omega)]
theorem tk_pt_i (w x : Nat → Int32) {b k j : Nat} (h : b ≤ j) (h2 : j < b + k) : tk_pt w x b k j = x (j - b) := by simp only [tk_pt]; rw [if_pos (by omega)]
theorem tk_pt_h (w x : Nat → Int32) {b k j : Nat} (h : b + k ≤ j) : tk_pt w x b k j = w j := by simp only [tk_pt]; rw [if_neg (by omega)]
theorem tk_cp_h (f g : Nat → Int32) {k j : Nat} (h : k ≤ j) : tk_cp f g k j = g j := by simp only [tk_cp]; rw [if_neg (by omega)]
theorem tk_cp_l (f g : Nat → Int32) {k j : Nat} (h : j < k) : tk_cp f g k j = f j := by simp only [tk_cp]; rw [if_pos h]
theorem tk_sum_c {f g : Nat → Int32} : ∀ (n : Nat), (∀ i, i < n → f i = g i) → tk_sum f n = tk_sum g n
  | 0, _ => rfl
  | n + 1, h => by
    show tk_sum f n + f n = tk_sum g n + g n
    rw [tk_sum_c n (fun i hi => h i (by omega)), h n (by omega)]
theorem tk_pts_c {d d' : Nat → Int32} (h14 : (d 14).toNatClampNeg ≤ 6) (h : ∀ i, i < 94 → d' i = d i) : tk_pts d' = tk_pts d := by
  unfold tk_pts
  rw [h 14 (by decide)]
  exact tk_sum_c _ (fun i hi => h _ (by omega))
theorem tk_takeE {d : Nat → Int32} {s : Nat} : tk_pt (upd d (94 + 95 * s) 1) d (94 + 95 * s + 1) 94 = fun i => if i = 94 + 95 * s then 1 else if 95 + 95 * s ≤ i ∧ i < 189 + 95 * s then d (i - (95 + 95 * s)) else d i := by
  funext i
  simp only [tk_pt, upd]
  by_cases h1 : 95 + 95 * s ≤ i ∧ i < 189 + 95 * s
  · rw [if_pos (by omega), if_neg (by omega), if_pos h1, show i - (94 + 95 * s + 1) = i - (95 + 95 * s) by omega]
  · rw [if_neg (by omega), if_neg h1]
theorem tk_restE {d : Nat → Int32} {s : Nat} : tk_cp (fun i => d (94 + 95 * s + 1 + i)) d 94 = fun i => if i < 94 then d (95 + 95 * s + i) else d i := by
  funext i
  simp only [tk_cp]
  rw [show 94 + 95 * s + 1 + i = 95 + 95 * s + i by omega]
theorem tk_smS {S : Nat → Nat → Int32} {r : Int32} {k : Nat} : tk_sm S (tk_alS S r k) (S 0) :=
  ⟨tk_alS_0 _ _ _ (by decide), tk_alS_0 _ _ _ (by decide), tk_alS_0 _ _ _ (by decide), tk_alS_0 _ _ _ (by decide), tk_alS_0 _ _ _ (by decide), tk_alS_0 _ _ _ (by decide), tk_alS_0 _ _ _ (by decide), fun _ h => tk_alS_7 _ _ _ h⟩
theorem ti1 : tk_in 0 0 2 = true ∧ tk_in 1 0 2 = true ∧ tk_in 2 0 2 = true ∧ tk_in 0 0 4 = true ∧ tk_in 0 0 1 = true ∧ tk_in 1 0 1 = true := by decide
