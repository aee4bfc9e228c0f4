/-! ===== numbers and lines ===== -/
set_option maxRecDepth 100000
/-- how many digits stand behind the first -/
def d_hi (x : Nat) : Nat := if x < 10 then 0 else if x < 100 then 1 else if x < 1000 then 2 else if x < 10000 then 3 else if x < 100000 then 4 else if x < 1000000 then 5 else if x < 10000000 then 6 else 7
def d_dg (x j : Nat) : Int32 := nI (48 + x / 10 ^ (d_hi x - j) % 10)
def d_wr (L : Nat → Int32) (t x : Nat) : Nat → Nat → Int32
  | 0 => L
  | j + 1 => upd (d_wr L t x j) (t + j) (d_dg x j)
def d_row (L : Nat → Int32) (t x : Nat) : Nat → Int32 := d_wr L t x (d_hi x + 1)
def mo_nl (σ : MS) (L : Nat → Int32) : MS := (σ.1, va_up σ.2 13 L)
theorem mo_nl_sa (σ : MS) (L : Nat → Int32) (j : Nat) (v : Int32) : mo_sa (mo_nl σ L) 13 j v = mo_nl σ (upd L j v) := by
  unfold mo_sa mo_nl
  refine Prod.ext rfl ?_
  funext k
  by_cases hk : k = 13
  · subst hk; simp [va_up]
  · simp [va_up, hk]
theorem mo_nl_self (σ : MS) : mo_nl σ (σ.2 13) = σ := by
  unfold mo_nl
  refine Prod.ext rfl ?_
  funext k
  by_cases hk : k = 13
  · subst hk; simp [va_up]
  · simp [va_up, hk]
theorem mo_nl_nl (σ : MS) (a b : Nat → Int32) : mo_nl (mo_nl σ a) b = mo_nl σ b := by
  unfold mo_nl
  refine Prod.ext rfl ?_
  funext k
  by_cases hk : k = 13
  · subst hk; simp [va_up]
  · simp [va_up, hk]
theorem mo_nl_2 {σ : MS} {a : Nat → Int32} : (mo_nl σ a).2 13 = a := va_up_self σ.2 13 a
theorem mo_nl_st {σ : MS} {a : Nat → Int32} {k : Nat} {v : Int32} : mo_st (mo_nl σ a) k v = mo_nl (mo_st σ k v) a := rfl
theorem d_hi_ok {x i : Nat} (hx : x < 100000000) (h1 : ∀ k, k < i → 10 ≤ x / 10 ^ k) (h2 : x / 10 ^ i < 10) (hi : i ≤ 7) : i = d_hi x := by
  unfold d_hi
  have e : i = 0 ∨ i = 1 ∨ i = 2 ∨ i = 3 ∨ i = 4 ∨ i = 5 ∨ i = 6 ∨ i = 7 := by omega
  rcases e with rfl | rfl | rfl | rfl | rfl | rfl | rfl | rfl
  · have : x < 10 := by simpa using h2
    simp [this]
  all_goals
    have a := h1 _ (Nat.lt_succ_self _)
    simp only [Nat.reducePow, Nat.pow_zero, Nat.div_one] at a h2
    repeat (first | rw [if_neg (by omega)] | rw [if_pos (by omega)])
theorem nI_div {a b : Nat} (ha : a < 2 ^ 31) (hb : b < 2 ^ 31) : nI a / nI b = nI (a / b) := by
  have hq : a / b < 2 ^ 31 := Nat.lt_of_le_of_lt (Nat.div_le_self _ _) ha
  apply Int32.toInt.inj
  rw [Int32.toInt_div, nI_toInt ha, nI_toInt hb, nI_toInt hq, ← Int.ofNat_tdiv]
  generalize a / b = q at hq ⊢
  apply Int.bmod_eq_of_le
  · omega
  · omega
theorem nI_sub {a b : Nat} (h : b ≤ a) : nI a - nI b = nI (a - b) := by
  have e : nI a = nI (a - b) + nI b := by rw [nI_add]; exact congrArg nI (by omega)
  rw [e, Int32.add_sub_cancel]
theorem nI_mul (a b : Nat) : nI a * nI b = nI (a * b) := (Int32.ofNat_mul a b).symm
theorem nI_mod10 {a : Nat} (ha : a < 2 ^ 31) : nI a - nI a / 10 * 10 = nI (a % 10) := by
  rw [show (10 : Int32) = nI 10 from rfl, nI_div ha (by decide), nI_mul, nI_sub (by omega)]
  exact congrArg nI (by omega)
theorem p10_le {i : Nat} (h : i ≤ 7) : 10 ^ i ≤ 10000000 := by
  have := Nat.pow_le_pow_right (n := 10) (by decide) h
  exact this
theorem d_hi_7 (x : Nat) : d_hi x ≤ 7 := by unfold d_hi; repeat (first | split | omega)
theorem d_hi_lt {x : Nat} (hx : x < 100000000) : x / 10 ^ d_hi x < 10 := by
  unfold d_hi
  repeat (first | split | (simp only [Nat.reducePow, Nat.pow_zero, Nat.div_one]; omega))
theorem p10_div {i : Nat} : 10 ^ (i + 1) / 10 = 10 ^ i := by rw [Nat.pow_succ]; exact Nat.mul_div_cancel _ (by decide)
/-- the unit behind j digits -/
def d_un (x j : Nat) : Nat := if j ≤ d_hi x then 10 ^ (d_hi x - j) else 0
theorem d_un_lt (x j : Nat) : d_un x j < 2 ^ 31 := by
  unfold d_un
  split
  · have := p10_le (i := d_hi x - j) (by have := d_hi_7 x; omega)
    omega
  · decide
theorem d_un_0 {x j : Nat} (hj : j ≤ d_hi x + 1) (h : d_un x j ≤ 0) : j = d_hi x + 1 := by
  unfold d_un at h
  split at h
  · have : 0 < 10 ^ (d_hi x - j) := Nat.pow_pos (by decide)
    omega
  · omega
theorem d_un_p {x j : Nat} (_ : j ≤ d_hi x + 1) (h : 0 < d_un x j) : j ≤ d_hi x := by
  unfold d_un at h
  split at h
  · assumption
  · omega
theorem d_un_s {x j : Nat} (h : j ≤ d_hi x) : d_un x j / 10 = d_un x (j + 1) := by
  unfold d_un
  rw [if_pos h]
  by_cases h9 : j + 1 ≤ d_hi x
  · rw [if_pos h9, show d_hi x - j = (d_hi x - (j + 1)) + 1 by omega]; exact p10_div
  · rw [if_neg h9, show d_hi x - j = 0 by omega]
theorem d_i6 {x i : Nat} (hx : x < 10000000) (h : 10 ≤ x / 10 ^ i) (h7 : i ≤ 7) : i ≤ 6 := by
  by_cases h9 : i = 7
  · subst h9
    simp only [Nat.reducePow] at h
    omega
  · omega
theorem nI_nez {n : Nat} (h : 0 < n) (h2 : n < 2 ^ 31) : ¬ nI n = 0 := fun z => absurd ((nI_eq h2 (by decide)).mp (z.trans nI_0.symm)) (by omega)
/-- a row that is written: the row, how far -/
abbrev wR : Type := (Nat → Int32) × Nat
def w_ch (p : wR) (v : Int32) : wR := (upd p.1 p.2 v, p.2 + 1)
def w_num (p : wR) (x : Nat) : wR := (d_row p.1 p.2 x, p.2 + (d_hi x + 1))
def w_sg (k : Nat) : Int32 := if k = 0 then 116 else if k = 1 then 98 else 103
/-- what stands for a kind of claims -/
def w_kd (p : wR) (k x u : Nat) : wR := if 0 < x then (if 0 < u then w_ch (w_num (w_ch (w_ch p 32) (w_sg k)) x) 63 else w_num (w_ch (w_ch p 32) (w_sg k)) x) else p
def o_wv (a : oA) (c w : Nat) : Nat := o_n (a (o_at c w))
def w_kds (a : oA) (c : Nat) (p : wR) : Nat → wR
  | 0 => p
  | k + 1 => w_kd (w_kds a c p k) k (o_wv a c (13 + 2 * k) + o_wv a c (13 + 2 * k + 1)) (o_wv a c (13 + 2 * k + 1))
def w_db (p : wR) (d : Nat) : wR := if 0 < d then w_num (w_ch (w_ch p 32) 45) d else p
def w_line (L : Nat → Int32) (a : oA) (c : Nat) : wR := w_db (w_kds a c (w_num (w_ch (w_num (L, 0) c) 58) (o_wv a c 0)) 3) (o_wv a c 2)
def w_bks (a : oA) (p : wR) : Nat → wR
  | 0 => p
  | b + 1 => w_num (w_ch (w_num (if b = 0 then w_bks a p b else w_ch (w_bks a p b) 32) (o_n (a (13 + 2 * b)))) 58) (o_n (a (13 + 2 * b + 1)))
/-- a citizen's numbers are small -/
def okL (a : oA) (c : Nat) : Prop := ∀ w, w < 19 → a (o_at c w) = nI (o_wv a c w) ∧ o_wv a c w < 4000000
/-- .. the brackets' too -/
def okB (a : oA) : Prop := ∀ b, b < o_many a → (a (13 + 2 * b) = nI (o_n (a (13 + 2 * b))) ∧ o_n (a (13 + 2 * b)) < 10000) ∧ a (13 + 2 * b + 1) = nI (o_n (a (13 + 2 * b + 1))) ∧ o_n (a (13 + 2 * b + 1)) < 100
theorem w_ch_2 {p : wR} {v : Int32} : (w_ch p v).2 = p.2 + 1 := rfl
theorem w_num_2 {p : wR} {x : Nat} : (w_num p x).2 = p.2 + (d_hi x + 1) := rfl
theorem mo_nl_ch {σ : MS} {p : wR} {v : Int32} : mo_sa (mo_nl σ p.1) 13 p.2 v = mo_nl σ (w_ch p v).1 := mo_nl_sa _ _ _ _
theorem mo_nl_nm {σ : MS} {p : wR} {x : Nat} : mo_nl (mo_nl σ p.1) (d_row ((mo_nl σ p.1).2 13) p.2 x) = mo_nl σ (w_num p x).1 := by
  rw [mo_nl_nl, mo_nl_2]; rfl
theorem d_hi_c {x : Nat} (h : x < 10) : d_hi x = 0 := if_pos h
theorem d_hi_100 {x : Nat} (h : x < 100) : d_hi x ≤ 1 := by
  by_cases h9 : x < 10
  · rw [d_hi_c h9]; omega
  · unfold d_hi; rw [if_neg h9, if_pos h]; omega
theorem d_hi_4 {x : Nat} (h : x < 10000) : d_hi x ≤ 3 := by
  unfold d_hi
  repeat (first | split | omega)
theorem nar_c16 (x : Int32) : narrow .char (.int (x.toUInt32 % 65536).toInt32) = .int (x.toUInt32 % 65536).toInt32 := by
  have h : ((x.toUInt32 % 65536).toInt32.toUInt32 % 65536).toInt32 = (x.toUInt32 % 65536).toInt32 := by
    have e : (x.toUInt32 % 65536).toInt32.toUInt32 = x.toUInt32 % 65536 := rfl
    rw [e]
    apply congrArg
    apply UInt32.toNat_inj.mp
    rw [UInt32.toNat_mod, UInt32.toNat_mod]
    exact Nat.mod_mod _ _
  exact congrArg Value.int h
