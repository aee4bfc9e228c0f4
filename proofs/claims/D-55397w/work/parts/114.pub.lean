/-! ===== begins .. ends ===== -/
set_option maxRecDepth 100000
theorem mo_cp_ne {σ : MS} {i j fr to n : Nat} (h : n ≠ j) : (mo_cp σ i j fr to).2 n = σ.2 n := va_up_ne σ.2 (va_cpy (σ.2 i) (σ.2 j) fr to 137) h
theorem mo_na_ne {σ : MS} {a : oA} {n : Nat} (h : n ≠ 0) : (mo_na σ a).2 n = σ.2 n := va_up_ne σ.2 a h
theorem m_shk_ne {σ : MS} {k n : Nat} (h : n ≠ 3) : (m_shk σ k).2 n = σ.2 n := va_up_ne σ.2 (va_cpy (σ.2 3) (σ.2 3) 137 0 k) h
theorem m_beg_ne {σ : MS} {n : Nat} (h : n ≠ 1) : (m_beg σ).2 n = σ.2 n := va_up_ne σ.2 (va_cpy (σ.2 0) (σ.2 1) 0 0 137) h
theorem pub_ref {σ σ2 : MS} {w t : Int32} (h : m_ref (m_beg σ) σ2 w t) : m_pub σ (.inl (w, t)) (m_endr σ2) 0 := by
  obtain ⟨h1, h2, h3, h4, h5⟩ := h
  refine ⟨rfl, ?_, h2, ?_, ?_, ?_, fun k k1 k2 k3 k4 k5 k6 => ?_, fun j hj => ?_, fun k k1 k2 => ?_⟩
  · simp [m_endr, mo_cp, mo_st, upd, h1]
  · simp [m_endr, mo_cp, mo_st, upd, h3]
  · simp [m_endr, mo_cp, mo_st, upd]
  · simp [m_endr, mo_cp, mo_st, upd]
  · have e := h4 k k5 k6
    simp [m_beg, mo_cp, mo_st, upd, k4, k5] at e
    simp [m_endr, mo_cp, mo_st, upd, k1, k2, k3, k4, e]
  · show va_up σ2.2 0 (va_cpy (σ2.2 1) (σ2.2 0) 0 0 137) 0 j = σ.2 0 j
    rw [va_up_self, h5 1 (by decide)]
    show va_cpy (va_up σ.2 1 (va_cpy (σ.2 0) (σ.2 1) 0 0 137) 1) _ 0 0 137 j = σ.2 0 j
    rw [va_up_self, pk_cpy_in (Nat.zero_le _) (by omega), pk_cpy_in (Nat.zero_le _) (by omega)]
    exact congrArg (σ.2 0) (by omega)
  · unfold m_endr
    rw [mo_cp_ne k1]
    show σ2.2 k = σ.2 k
    rw [h5 k k1, m_beg_ne k2]
theorem pub_ok {σ : MS} {a' : oA} {ans : Int32} (h5 : σ.1 5 = nI (o_n (σ.1 5)) ∧ o_n (σ.1 5) ≤ 8) : m_pub σ (.inr (a', ans)) (m_rem (mo_na (m_beg σ) a')) ans := by
  have hb5 : (mo_na (m_beg σ) a').1 5 = σ.1 5 := rfl
  have hbef : ∀ j, j < 137 → (mo_na (m_beg σ) a').2 1 j = σ.2 0 j := fun j hj => by
    show va_up (va_up σ.2 1 (va_cpy (σ.2 0) (σ.2 1) 0 0 137)) 0 a' 1 j = σ.2 0 j
    rw [va_up_ne _ _ (by decide), va_up_self, pk_cpy_in (Nat.zero_le _) (by omega)]
    exact congrArg (σ.2 0) (by omega)
  have hhis : (mo_na (m_beg σ) a').2 3 = σ.2 3 := by
    rw [mo_na_ne (by decide), m_beg_ne (by decide)]
  unfold m_rem
  rw [hb5]
  by_cases h8 : σ.1 5 = 8
  · rw [if_pos h8]
    refine ⟨rfl, ?_, fun j hj => ?_, ?_, fun k k1 k2 k3 k4 => ?_, fun k k1 k2 k3 => ?_⟩
    · simp [m_shk, mo_na, m_beg, mo_cp, mo_st, upd]
    · show (mo_cp (mo_st (m_shk (mo_na (m_beg σ) a') 959) 5 7) 1 3 0 (7 * 137)).2 0 j = a' j
      rw [mo_cp_ne (by decide)]
      show (m_shk (mo_na (m_beg σ) a') 959).2 0 j = a' j
      rw [m_shk_ne (by decide), mo_na_2]
    · rw [if_pos h8]
      refine ⟨?_, fun j hj => ?_⟩
      · simp [m_shk, mo_na, m_beg, mo_cp, mo_st, upd]; rfl
      · show va_up (m_shk (mo_na (m_beg σ) a') 959).2 3 (va_cpy ((m_shk (mo_na (m_beg σ) a') 959).2 1) ((m_shk (mo_na (m_beg σ) a') 959).2 3) 0 (7 * 137) 137) 3 j = _
        rw [va_up_self]
        have e1 : (m_shk (mo_na (m_beg σ) a') 959).2 1 = (mo_na (m_beg σ) a').2 1 := m_shk_ne (by decide)
        have e2 : (m_shk (mo_na (m_beg σ) a') 959).2 3 = va_cpy (σ.2 3) (σ.2 3) 137 0 959 := by
          show va_up (mo_na (m_beg σ) a').2 3 (va_cpy ((mo_na (m_beg σ) a').2 3) ((mo_na (m_beg σ) a').2 3) 137 0 959) 3 = _
          rw [va_up_self, hhis]
        rw [e1, e2]
        by_cases hj9 : j < 959
        · rw [if_pos hj9, pk_cpy_out (Or.inl (by omega)), pk_cpy_in (Nat.zero_le _) (by omega)]
          exact congrArg (σ.2 3) (by omega)
        · rw [if_neg hj9, pk_cpy_in (by omega) (by omega), hbef _ (by omega)]
          exact congrArg (σ.2 0) (by omega)
    · simp [m_shk, mo_na, m_beg, mo_cp, mo_st, upd, k1, k2, k3]
    · show (mo_cp (mo_st (m_shk (mo_na (m_beg σ) a') 959) 5 7) 1 3 0 (7 * 137)).2 k = σ.2 k
      rw [mo_cp_ne k3]
      show (m_shk (mo_na (m_beg σ) a') 959).2 k = σ.2 k
      rw [m_shk_ne k3, mo_na_ne k1, m_beg_ne k2]
  · rw [if_neg h8]
    refine ⟨rfl, ?_, fun j hj => ?_, ?_, fun k k1 k2 k3 k4 => ?_, fun k k1 k2 k3 => ?_⟩
    · simp [mo_na, m_beg, mo_cp, mo_st, upd]
    · show (mo_cp (mo_na (m_beg σ) a') 1 3 0 (o_n (σ.1 5) * 137)).2 0 j = a' j
      rw [mo_cp_ne (by decide), mo_na_2]
    · rw [if_neg h8]
      refine ⟨?_, fun j hj => ?_⟩
      · show upd (upd (upd σ.1 16 0) 15 0) 5 (nI (o_n (σ.1 5) + 1)) 5 = σ.1 5 + 1
        rw [show upd (upd (upd σ.1 16 0) 15 0) 5 (nI (o_n (σ.1 5) + 1)) 5 = nI (o_n (σ.1 5) + 1) by simp [upd], nI_succ, ← h5.1]
      · show va_up (mo_na (m_beg σ) a').2 3 (va_cpy ((mo_na (m_beg σ) a').2 1) ((mo_na (m_beg σ) a').2 3) 0 (o_n (σ.1 5) * 137) 137) 3 j = _
        rw [va_up_self, hhis]
        by_cases hj9 : 137 * o_n (σ.1 5) ≤ j ∧ j < 137 * o_n (σ.1 5) + 137
        · rw [if_pos hj9, pk_cpy_in (by omega) (by omega), hbef _ (by omega)]
          exact congrArg (σ.2 0) (by omega)
        · rw [if_neg hj9, pk_cpy_out (by omega)]
    · simp [mo_na, m_beg, mo_cp, mo_st, upd, k1, k2, k3]
    · show (mo_cp (mo_na (m_beg σ) a') 1 3 0 (o_n (σ.1 5) * 137)).2 k = σ.2 k
      rw [mo_cp_ne k3, mo_na_ne k1, m_beg_ne k2]
/-! ===== the end of a year, as the model reckons it ===== -/
/-- what is carried is used up to k: the row, what is left of the tax -/
def o_use (a : oA) (c : Nat) (t : Int32) : Nat → oA × Int32
  | 0 => (a, t)
  | k + 1 => (upd (o_use a c t k).1 (o_at c (7 + 2 * k)) ((o_use a c t k).1 (o_at c (7 + 2 * k)) + -(mn (o_use a c t k).2 ((o_use a c t k).1 (o_at c (7 + 2 * k))))), (o_use a c t k).2 - mn (o_use a c t k).2 ((o_use a c t k).1 (o_at c (7 + 2 * k))))
/-- those that are left get older, up to k: the row, how many stay -/
def o_age (a : oA) (c : Nat) : Nat → oA × Nat
  | 0 => (a, 0)
  | k + 1 => if 0 < (o_age a c k).1 (o_at c (7 + 2 * k)) ∧ (o_age a c k).1 (o_at c (7 + 2 * k + 1)) + 1 < 3 then
      (upd (upd (o_age a c k).1 (o_at c (7 + 2 * (o_age a c k).2)) ((o_age a c k).1 (o_at c (7 + 2 * k)))) (o_at c (7 + 2 * (o_age a c k).2 + 1)) ((o_age a c k).1 (o_at c (7 + 2 * k + 1)) + 1), (o_age a c k).2 + 1)
    else o_age a c k
def o_zero (a : oA) (c f : Nat) : Nat → oA
  | 0 => a
  | k + 1 => upd (o_zero a c f k) (o_at c (f + k)) 0
def o_add (p : oA × Nat) (c : Nat) (f : Int32) : oA × Nat := if 0 < f then (upd (upd p.1 (o_at c (7 + 2 * p.2)) f) (o_at c (7 + 2 * p.2 + 1)) 0, p.2 + 1) else p
/-- .. how many are carried, and what is behind them is nought -/
def o_put (p : oA × Nat) (c : Nat) : oA := o_zero (upd p.1 (o_at c 6) (nI p.2)) c (7 + 2 * p.2) (6 - 2 * p.2)
def o_ages (a : oA) (c : Nat) (f : Int32) : oA := o_put (o_add (o_age a c (o_held a c)) c f) c
theorem o_use_ne {a : oA} {c : Nat} {t : Int32} {j : Nat} (h : ∀ i, j ≠ o_at c (7 + 2 * i)) : ∀ k, (o_use a c t k).1 j = a j
  | 0 => rfl
  | k + 1 => by
    show upd (o_use a c t k).1 (o_at c (7 + 2 * k)) _ j = a j
    rw [upd_ne (h k)]
    exact o_use_ne h k
theorem o_age_t {a : oA} {c k : Nat} (h : 0 < (o_age a c k).1 (o_at c (7 + 2 * k)) ∧ (o_age a c k).1 (o_at c (7 + 2 * k + 1)) + 1 < 3) : o_age a c (k + 1) = (upd (upd (o_age a c k).1 (o_at c (7 + 2 * (o_age a c k).2)) ((o_age a c k).1 (o_at c (7 + 2 * k)))) (o_at c (7 + 2 * (o_age a c k).2 + 1)) ((o_age a c k).1 (o_at c (7 + 2 * k + 1)) + 1), (o_age a c k).2 + 1) := if_pos h
theorem o_age_f {a : oA} {c k : Nat} (h : ¬ (0 < (o_age a c k).1 (o_at c (7 + 2 * k)) ∧ (o_age a c k).1 (o_at c (7 + 2 * k + 1)) + 1 < 3)) : o_age a c (k + 1) = o_age a c k := if_neg h
theorem o_age_le {a : oA} {c : Nat} : ∀ k, (o_age a c k).2 ≤ k
  | 0 => Nat.le_refl _
  | k + 1 => by
    have h := o_age_le (a := a) (c := c) k
    by_cases h9 : 0 < (o_age a c k).1 (o_at c (7 + 2 * k)) ∧ (o_age a c k).1 (o_at c (7 + 2 * k + 1)) + 1 < 3
    · rw [o_age_t h9]; show (o_age a c k).2 + 1 ≤ k + 1; omega
    · rw [o_age_f h9]; omega
/-- the places behind what is carried stay -/
theorem o_age_ne {a : oA} {c : Nat} {j : Nat} (h : ∀ i, j ≠ o_at c (7 + 2 * i) ∧ j ≠ o_at c (7 + 2 * i + 1)) : ∀ k, (o_age a c k).1 j = a j
  | 0 => rfl
  | k + 1 => by
    by_cases h9 : 0 < (o_age a c k).1 (o_at c (7 + 2 * k)) ∧ (o_age a c k).1 (o_at c (7 + 2 * k + 1)) + 1 < 3
    · rw [o_age_t h9]
      show upd (upd _ _ _) _ _ j = a j
      rw [upd_ne (h _).2, upd_ne (h _).1]
      exact o_age_ne h k
    · rw [o_age_f h9]; exact o_age_ne h k
def o_d (a : oA) (c : Nat) (au : Prop) [Decidable au] : Int32 := o_dues a (a (o_at c 0)) (o_counts a c au 3)
def o_fine (a : oA) (c : Nat) (au : Prop) [Decidable au] : Int32 := if au then o_bare a c 3 / 10 else 0
def o_ut (a : oA) (c : Nat) (au : Prop) [Decidable au] : oA × Int32 := if 0 < o_d a c au then o_use a c (o_d a c au / 100) (o_held a c) else (a, 0)
def o_fresh (a : oA) (c : Nat) (au : Prop) [Decidable au] : Int32 := if 0 < o_d a c au then 0 else -(o_d a c au) / 100
def o_b (a : oA) (c : Nat) (au : Prop) [Decidable au] : oA := o_ages (o_ut a c au).1 c (o_fresh a c au)
def o_due (a : oA) (c : Nat) (au : Prop) [Decidable au] : Int32 := o_b a c au (o_at c 2) + (o_ut a c au).2 + o_fine a c au
def o_paid (a : oA) (c : Nat) (au : Prop) [Decidable au] : Int32 := mn (o_due a c au) (o_b a c au (o_at c 1))
def o_payA (a : oA) (c : Nat) (au : Prop) [Decidable au] : oA :=
  o_zero (upd (upd (upd (upd (upd (upd (o_b a c au) (o_at c 1) (o_b a c au (o_at c 1) + -(o_paid a c au))) (o_at c 2) (o_due a c au - o_paid a c au)) (o_at c 3) (o_b a c au (o_at c 3) + (o_ut a c au).2)) (o_at c 4) (o_b a c au (o_at c 4) + o_fine a c au)) (o_at c 5) (o_b a c au (o_at c 5) + b01 au)) (o_at c 0) 0) c 13 6
def o_year (a : oA) (aud : Int32) : Nat → oA × Int32
  | 0 => (a, 0)
  | k + 1 => (o_payA (o_year a aud k).1 k (nI k = aud), (o_year a aud k).2 + o_paid (o_year a aud k).1 k (nI k = aud))
def o_lot (x : Int32) : Int32 := (41 * x + 17) - (41 * x + 17) / 10000 * 10000
def o_aud (a : oA) : Int32 := if a 5 = 0 then -1 else o_lot (a 6) - o_lot (a 6) / a 5 * a 5
def o_y0 (a : oA) : oA := upd a 6 (o_lot (a 6))
def o_yr (a : oA) (k : Nat) : oA × Int32 := o_year (o_y0 a) (o_aud a) k
def i_year (a : oA) : Rs := .inr (upd (upd (o_yr a (o_people a)).1 7 ((o_yr a (o_people a)).1 7 + (o_yr a (o_people a)).2)) 0 ((o_yr a (o_people a)).1 0 + 1), (o_yr a (o_people a)).2)
theorem o_ut_ne {a : oA} {c : Nat} {au : Prop} [Decidable au] {j : Nat} (h : ∀ i, j ≠ o_at c (7 + 2 * i)) : (o_ut a c au).1 j = a j := by
  unfold o_ut
  split
  · exact o_use_ne h _
  · rfl
