/-! ===== the office as one row of numbers: what is reckoned of it ===== -/
set_option maxRecDepth 100000
abbrev oA : Type := Nat → Int32
def o_n (x : Int32) : Nat := x.toNatClampNeg
abbrev o_many (a : oA) : Nat := o_n (a 1)
abbrev o_people (a : oA) : Nat := o_n (a 5)
abbrev o_held (a : oA) (c : Nat) : Nat := o_n (a (23 + 19 * c + 6))
/-- the counts of an office are small -/
def okI (a : oA) : Prop := a 1 = nI (o_many a) ∧ 1 ≤ o_many a ∧ o_many a ≤ 5 ∧ a 5 = nI (o_people a) ∧ o_people a ≤ 6 ∧ (∀ c, c < o_people a → a (23 + 19 * c + 6) = nI (o_held a c) ∧ o_held a c ≤ 3) ∧ a 13 = 0
def o_cts (a : oA) (c : Nat) (au : Prop) [Decidable au] (k : Nat) : Int32 := mn (a (10 + k)) (a (23 + 19 * c + (13 + 2 * k)) + (if au then 0 else a (23 + 19 * c + (13 + 2 * k + 1))))
def o_counts (a : oA) (c : Nat) (au : Prop) [Decidable au] : Nat → Int32
  | 0 => 0
  | k + 1 => o_counts a c au k + o_cts a c au k
def o_bare (a : oA) (c : Nat) : Nat → Int32
  | 0 => 0
  | k + 1 => o_bare a c k + a (23 + 19 * c + (13 + 2 * k + 1))
def o_left (a : oA) (x : Int32) : Int32 := mx 0 (100 * a 2 - a 4 * mx 0 (x - a 3))
def o_to (a : oA) (t : Int32) (b : Nat) : Int32 := if b + 1 < o_many a then mn t (a (13 + 2 * (b + 1))) else t
def o_hund (a : oA) (t : Int32) : Nat → Int32
  | 0 => 0
  | b + 1 => o_hund a t b + mx 0 (o_to a t b - a (13 + 2 * b)) * a (13 + 2 * b + 1)
def o_dues (a : oA) (x cs : Int32) : Int32 := o_hund a (mx 0 (x - cs)) (o_many a) - o_left a x
def o_car (a : oA) (c : Nat) : Nat → Int32
  | 0 => 0
  | k + 1 => o_car a c k + a (23 + 19 * c + (7 + 2 * k))
def o_carried (a : oA) (c : Nat) : Int32 := o_car a c (o_held a c)
def o_tax (a : oA) (c : Nat) (x : Int32) (au : Prop) [Decidable au] : Int32 := if o_dues a x (o_counts a c au 3) ≤ 0 then 0 else mx 0 (o_dues a x (o_counts a c au 3) / 100 - o_carried a c)
theorem nI_ltc {a b : Nat} (h : nI a < nI b) (ha : a < 2 ^ 31) (hb : b < 2 ^ 31) : a < b := (nI_ltI ha hb).mp h
theorem nI_nltc {a b : Nat} (h : ¬ nI a < nI b) (ha : a < 2 ^ 31) (hb : b < 2 ^ 31) : b ≤ a := Nat.not_lt.mp fun z => h ((nI_ltI ha hb).mpr z)
theorem nI_lec {a b : Nat} (h : nI a ≤ nI b) (ha : a < 2 ^ 31) (hb : b < 2 ^ 31) : a ≤ b := (nI_leI ha hb).mp h
theorem nI_nlec {a b : Nat} (h : ¬ nI a ≤ nI b) (ha : a < 2 ^ 31) (hb : b < 2 ^ 31) : b < a := Nat.not_le.mp fun z => h ((nI_leI ha hb).mpr z)
/-- the row `now` of the model is another -/
def mo_na (σ : MS) (a : oA) : MS := (σ.1, va_up σ.2 0 a)
theorem mo_na_sa (σ : MS) (a : oA) (j : Nat) (v : Int32) : mo_sa (mo_na σ a) 0 j v = mo_na σ (upd a j v) := by
  unfold mo_sa mo_na
  refine Prod.ext rfl ?_
  funext k
  by_cases hk : k = 0
  · subst hk; simp [va_up]
  · simp [va_up, hk]
theorem mo_na_self (σ : MS) : mo_na σ (σ.2 0) = σ := by
  unfold mo_na
  refine Prod.ext rfl ?_
  funext k
  by_cases hk : k = 0
  · subst hk; simp [va_up]
  · simp [va_up, hk]
theorem mo_sa_na (σ : MS) (j : Nat) (v : Int32) : mo_sa σ 0 j v = mo_na σ (upd (σ.2 0) j v) := rfl
theorem mo_na_na (σ : MS) (a b : oA) : mo_na (mo_na σ a) b = mo_na σ b := by
  unfold mo_na
  refine Prod.ext rfl ?_
  funext k
  by_cases hk : k = 0
  · subst hk; simp [va_up]
  · simp [va_up, hk]
theorem cmp_le {x y : Int32} {a b : Nat} (h : x ≤ y) (hx : x = nI a) (hy : y = nI b) (ha : a < 2 ^ 31) (hb : b < 2 ^ 31) : a ≤ b := by subst hx; subst hy; exact (nI_leI ha hb).mp h
theorem cmp_nle {x y : Int32} {a b : Nat} (h : ¬ x ≤ y) (hx : x = nI a) (hy : y = nI b) (ha : a < 2 ^ 31) (hb : b < 2 ^ 31) : b < a := by subst hx; subst hy; exact Nat.not_le.mp fun z => h ((nI_leI ha hb).mpr z)
theorem cmp_lt {x y : Int32} {a b : Nat} (h : x < y) (hx : x = nI a) (hy : y = nI b) (ha : a < 2 ^ 31) (hb : b < 2 ^ 31) : a < b := by subst hx; subst hy; exact (nI_ltI ha hb).mp h
theorem cmp_nlt {x y : Int32} {a b : Nat} (h : ¬ x < y) (hx : x = nI a) (hy : y = nI b) (ha : a < 2 ^ 31) (hb : b < 2 ^ 31) : b ≤ a := by subst hx; subst hy; exact Nat.not_lt.mp fun z => h ((nI_ltI ha hb).mpr z)
theorem cmp_eq {x y : Int32} {a b : Nat} (h : x = y) (hx : x = nI a) (hy : y = nI b) (ha : a < 2 ^ 31) (hb : b < 2 ^ 31) : a = b := by subst hx; subst hy; exact (nI_eq ha hb).mp h
theorem cmp_ne {x y : Int32} {a b : Nat} (h : ¬ x = y) (hx : x = nI a) (hy : y = nI b) : a ≠ b := fun z => h (by rw [hx, hy, z])
