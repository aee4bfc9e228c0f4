/-! ===== what is asked of an office ===== -/
set_option maxRecDepth 100000
def o_fnd (a : oA) (x : Int32) : Nat → Nat
  | 0 => 0
  | b + 1 => if a (13 + 2 * b) < x then b else o_fnd a x b
def o_T (a : oA) (c i : Nat) : Int32 := o_tax a c (nI i) False
def o_nl (a : oA) (c : Nat) : Nat → Bool
  | 0 => true
  | n + 1 => o_nl a c n && decide (nI n - o_T a c n ≤ nI (n + 1) - o_T a c (n + 1))
theorem o_nl_up {a : oA} {c k : Nat} (h : ¬ o_nl a c k = true) : ∀ n, k ≤ n → ¬ o_nl a c n = true
  | 0, h1 => by rw [show k = 0 by omega] at h; exact h
  | n + 1, h1 => by
    by_cases h2 : k = n + 1
    · rw [← h2]; exact h
    · intro z
      rw [show o_nl a c (n + 1) = (o_nl a c n && decide (nI n - o_T a c n ≤ nI (n + 1) - o_T a c (n + 1))) from rfl, Bool.and_eq_true] at z
      exact o_nl_up h n (by omega) z.1
def o_more (a : oA) (x y : Nat) : Int32 := a (23 + 19 * x + 1) - a (23 + 19 * x + 2) - a (23 + 19 * y + 1) + a (23 + 19 * y + 2)
def o_inc (a : oA) (x y : Nat) : Int32 := a (23 + 19 * x + 0) - a (23 + 19 * y + 0)
def o_ahd (a : oA) (x y : Nat) : Int32 := if o_more a x y = 0 then (if o_inc a x y = 0 then b01 (nI x < nI y) else b01 (0 < o_inc a x y)) else b01 (0 < o_more a x y)
def o_cnt (a : oA) (x : Nat) : Nat → Int32
  | 0 => 0
  | k + 1 => o_cnt a x k + (if nI k = nI x then 0 else if o_ahd a k x = 0 then 0 else 1)
def o_rk (a : oA) (p : Int32) : Nat → Int32
  | 0 => -1
  | k + 1 => if o_cnt a k (o_people a) = p then nI k else o_rk a p k
def o_sum (a : oA) (w : Nat) : Nat → Int32
  | 0 => 0
  | k + 1 => o_sum a w k + (if nI w = 6 then o_carried a k else a (23 + 19 * k + w))
def o_lots (x : Int32) : Nat → Int32
  | 0 => x
  | k + 1 => o_lot (o_lots x k)
abbrev o_bal (a : oA) : Prop := a 8 = o_sum a 1 (o_people a) + a 7 + a 9 ∧ o_sum a 3 (o_people a) + o_sum a 4 (o_people a) = a 7 + o_sum a 2 (o_people a)
theorem o_nl_s {a : oA} {c k : Nat} (h : o_nl a c k = true) : b01 (¬ (nI (k + 1) - o_tax a c (nI (k + 1)) False < nI k - o_tax a c (nI k) False)) = b01 (o_nl a c (k + 1) = true) := by
  refine b01_c ?_
  rw [show o_nl a c (k + 1) = (o_nl a c k && decide (nI k - o_T a c k ≤ nI (k + 1) - o_T a c (k + 1))) from rfl, h, Bool.true_and, decide_eq_true_eq]
  exact Int32.not_lt
theorem o_cnt_f {a : oA} {x k : Nat} (h : ¬ nI k = nI x) : o_cnt a x k + b01 (¬ (o_ahd a k x = 0)) = o_cnt a x (k + 1) := by
  show _ = o_cnt a x k + (if nI k = nI x then 0 else if o_ahd a k x = 0 then 0 else 1)
  rw [if_neg h]
  unfold b01
  by_cases h9 : o_ahd a k x = 0 <;> simp [h9]
theorem o_cnt_t {a : oA} {x k : Nat} (h : nI k = nI x) : o_cnt a x k + 0 = o_cnt a x (k + 1) := by
  show _ = o_cnt a x k + (if nI k = nI x then 0 else if o_ahd a k x = 0 then 0 else 1)
  rw [if_pos h]
/-- what is asked of a citizen -/
def o_cit (a : oA) (c w : Nat) : Int32 := if w < 3 then a (23 + 19 * c + w) else if w = 3 then o_counts a c False 3 else if w = 4 then o_bare a c 3 else if w = 5 then o_carried a c else a (23 + 19 * c + (w - 3))
def o_acc (σ : MS) (n : Nat) : Int32 := if n < 10 then σ.2 0 n else if n = 10 then o_sum (σ.2 0) 2 (o_people (σ.2 0)) else if n = 11 then o_sum (σ.2 0) 3 (o_people (σ.2 0)) else if n = 12 then o_sum (σ.2 0) 4 (o_people (σ.2 0)) else if n = 13 then o_sum (σ.2 0) 6 (o_people (σ.2 0)) else if n = 14 then σ.1 11 else σ.1 5
theorem mo_st_st (σ : MS) (k : Nat) (v w : Int32) : mo_st (mo_st σ k v) k w = mo_st σ k w := by
  unfold mo_st
  refine Prod.ext ?_ rfl
  funext j
  by_cases h : j = k <;> simp [upd, h]
theorem m_gv_f {A B C : Prop} [Decidable A] [Decidable B] [Decidable C] {x y : Int32} (h : ¬ A) : m_gv A x B y = m_gv A x C y := by unfold m_gv; rw [if_neg h, if_neg h]
def m_und (σ : MS) : MS := if o_n (σ.1 5) = 0 then mo_st σ 15 1 else mo_cp (mo_st (mo_st σ 15 0) 5 (nI (o_n (σ.1 5) - 1))) 3 0 ((o_n (σ.1 5) - 1) * 137) 0
def m_rst (σ : MS) : MS := if σ.1 4 = 0 then mo_st σ 15 1 else mo_st (mo_cp (mo_st σ 15 0) 2 0 0 0) 5 0
def m_rsn (σ : MS) (ca : Prop) [Decidable ca] : Int32 := if ca then σ.1 8 else σ.1 6
def m_dtl (σ : MS) (ca : Prop) [Decidable ca] : Int32 := if ca then σ.1 9 else σ.1 7
theorem tab_out {x : Int32} {n : Nat} (h : ¬ (0 ≤ x ∧ x ≤ nI n)) (hn : n < 2 ^ 31) : x.toInt < 0 ∨ (n : Int) < x.toInt := by
  rw [Int32.le_iff_toInt_le, Int32.le_iff_toInt_le, nI_toInt hn] at h
  have e0 : (0 : Int32).toInt = 0 := rfl
  omega
theorem tab_in {x : Nat} {n : Nat} (h : x ≤ n) (hn : n < 2 ^ 31) : ¬ (nI x).toInt < 0 ∧ ¬ (n : Int) < (nI x).toInt := by
  rw [nI_toInt (by omega)]
  omega
theorem tab_at {x : Nat} (h : x < 2 ^ 31) : ((nI x).toInt - 0).toNat = x := by
  rw [nI_toInt h]; omega
def o_beg (n : Nat) : Nat := if n = 0 then 0 else if n = 1 then 4 else if n = 2 then 9 else if n = 3 then 14 else if n = 4 then 21 else if n = 5 then 25 else if n = 6 then 28 else if n = 7 then 32 else 36
theorem o_sub6 {n : Nat} (h : 5 < n) : nI (3 + n) - 6 = nI (n - 3) := by
  rw [show nI (3 + n) = 3 + nI n by simp only [nI, Int32.ofNat_add]; rfl]
  obtain ⟨m, rfl⟩ : ∃ m, n = m + 3 := ⟨n - 3, by omega⟩
  rw [show m + 3 - 3 = m by omega, show nI (m + 3) = nI m + 3 by simp only [nI, Int32.ofNat_add]; rfl]
  rw [Int32.add_comm 3 _, Int32.add_assoc, Int32.sub_eq_add_neg, Int32.add_assoc, show (3 + 3 + -6 : Int32) = 0 by decide]
  exact Int32.add_zero _
theorem nI_pm {n : Nat} (h : 0 < n) : nI n - 1 = nI (n - 1) := by
  obtain ⟨m, rfl⟩ : ∃ m, n = m + 1 := ⟨n - 1, by omega⟩
  exact nI_pred m
