/-! ===== what each order does to an office: refused (reason, detail), or done (the new row, what is told) ===== -/
set_option maxRecDepth 100000
abbrev Rs : Type := (Int32 × Int32) ⊕ (oA × Int32)
def o_at (c w : Nat) : Nat := 23 + 19 * c + w
/-- a copy of a whole row -/
def mo_cp (σ : MS) (i j fr to : Nat) : MS := (σ.1, va_up σ.2 j (va_cpy (σ.2 i) (σ.2 j) fr to 137))
def mo_hin (σ : MS) (P : Prop) [Decidable P] (by' its : Int32) : MS := if P ∧ σ.1 16 = 0 then mo_st (mo_st σ 16 by') 17 its else σ
theorem mo_hin_t {σ : MS} {P : Prop} [Decidable P] {w t : Int32} (h : P) (h0 : σ.1 16 = 0) : mo_hin σ P w t = mo_st (mo_st σ 16 w) 17 t := if_pos ⟨h, h0⟩
theorem mo_hin_f {σ : MS} {P : Prop} [Decidable P] {w t : Int32} (h : ¬ P) : mo_hin σ P w t = σ := if_neg fun z => h z.1
theorem mo_hin_r {σ : MS} {P : Prop} [Decidable P] {w t : Int32} (h : ¬ σ.1 16 = 0) : mo_hin σ P w t = σ := if_neg fun z => h z.2
/-- the model's state where an inner step was hindered: why, what; the row is anything -/
def m_ref (σ σ' : MS) (w t : Int32) : Prop := σ'.1 16 = w ∧ ¬ w = 0 ∧ σ'.1 17 = t ∧ (∀ k, k ≠ 16 → k ≠ 17 → σ'.1 k = σ.1 k) ∧ ∀ k, k ≠ 0 → σ'.2 k = σ.2 k
theorem m_ref.of (σ : MS) {w t : Int32} (h : ¬ w = 0) : m_ref σ (mo_st (mo_st σ 16 w) 17 t) w t := by
  refine ⟨by simp [mo_st, upd], h, by simp [mo_st, upd], fun k h1 h2 => by simp [mo_st, upd, h1, h2], fun k _ => rfl⟩
theorem m_ref.sa {σ σ' : MS} {w t : Int32} (h : m_ref σ σ' w t) (j : Nat) (v : Int32) : m_ref σ (mo_sa σ' 0 j v) w t :=
  ⟨h.1, h.2.1, h.2.2.1, h.2.2.2.1, fun k hk => (show (mo_sa σ' 0 j v).2 k = σ'.2 k by simp [mo_sa, va_up, hk]).trans (h.2.2.2.2 k hk)⟩
/-- an inner step -/
def m_inn (σ : MS) (rs : Rs) (σ' : MS) (r : Int32) : Prop := match rs with
  | .inl x => m_ref σ σ' x.1 x.2
  | .inr y => σ' = mo_na σ y.1 ∧ r = y.2
/-- a step of the model's own methods, as the law sees it -/
def m_pub (σ : MS) (rs : Rs) (σ' : MS) (r : Int32) : Prop := match rs with
  | .inl x => r = 0 ∧ σ'.1 6 = x.1 ∧ ¬ x.1 = 0 ∧ σ'.1 7 = x.2 ∧ σ'.1 8 = 0 ∧ σ'.1 15 = 1 ∧ (∀ k, k ≠ 6 → k ≠ 7 → k ≠ 8 → k ≠ 15 → k ≠ 16 → k ≠ 17 → σ'.1 k = σ.1 k) ∧ (∀ j, j < 137 → σ'.2 0 j = σ.2 0 j) ∧ ∀ k, k ≠ 0 → k ≠ 1 → σ'.2 k = σ.2 k
  | .inr y => r = y.2 ∧ σ'.1 15 = 0 ∧ (∀ j, j < 137 → σ'.2 0 j = y.1 j) ∧ (if σ.1 5 = 8 then σ'.1 5 = 8 ∧ ∀ j, j < 1096 → σ'.2 3 j = if j < 959 then σ.2 3 (j + 137) else σ.2 0 (j - 959) else σ'.1 5 = σ.1 5 + 1 ∧ ∀ j, j < 1096 → σ'.2 3 j = if 137 * o_n (σ.1 5) ≤ j ∧ j < 137 * o_n (σ.1 5) + 137 then σ.2 0 (j - 137 * o_n (σ.1 5)) else σ.2 3 j) ∧ (∀ k, k ≠ 5 → k ≠ 15 → k ≠ 16 → k ≠ 17 → σ'.1 k = σ.1 k) ∧ ∀ k, k ≠ 0 → k ≠ 1 → k ≠ 3 → σ'.2 k = σ.2 k
-- the orders
def o_plc (a : oA) (e : Int32) : Nat → Nat
  | 0 => 0
  | b + 1 => o_plc a e b + (if a (13 + 2 * b) < e then 1 else 0)
/-- the first bracket with an edge -/
def o_with (a : oA) (e : Int32) : Nat → Option Nat
  | 0 => none
  | b + 1 => match o_with a e b with
    | some k => some k
    | none => if a (13 + 2 * b) = e then some b else none
def o_shu (a : oA) (p n : Nat) : oA := fun j => if 13 + p + 2 ≤ j ∧ j < 13 + n + 2 then a (j - 2) else a j
def o_shd (a : oA) (p n : Nat) : oA := fun j => if 13 + p ≤ j ∧ j < 13 + n then a (j + 2) else a j
def i_tells (a : oA) (e r : Int32) : Rs :=
  if ¬ (1 ≤ e ∧ e ≤ 9999) then .inl (3, e) else if ¬ (0 ≤ r ∧ r ≤ 60) then .inl (3, r) else
  match o_with a e (o_many a) with
  | some k => .inl (4, nI k)
  | none => if o_many a = 5 then .inl (1, 5) else
    .inr (upd (upd (upd (o_shu a (2 * o_plc a e (o_many a)) (2 * o_many a)) (13 + 2 * o_plc a e (o_many a)) e) (13 + 2 * o_plc a e (o_many a) + 1) r) 1 (nI (o_many a + 1)), nI (o_plc a e (o_many a)))
def i_drops (a : oA) (b : Int32) : Rs :=
  if ¬ (0 ≤ b ∧ b ≤ a 1 - 1) then .inl (2, b) else if b = 0 then .inl (5, a (13 + 2 * 0 + 1)) else
    .inr (upd (o_shd a (2 * o_n b) (2 * o_many a - 2)) 1 (nI (o_many a - 1)), a (13 + 2 * o_n b))
def i_rates (a : oA) (b r : Int32) : Rs :=
  if ¬ (0 ≤ b ∧ b ≤ a 1 - 1) then .inl (2, b) else if ¬ (0 ≤ r ∧ r ≤ 60) then .inl (3, r) else
    .inr (upd a (13 + 2 * o_n b + 1) r, a (13 + 2 * o_n b + 1))
def i_credit (a : oA) (x f s : Int32) : Rs :=
  if ¬ (0 ≤ x ∧ x ≤ 200) then .inl (3, x) else if ¬ (0 ≤ f ∧ f ≤ 9999) then .inl (3, f) else if ¬ (0 ≤ s ∧ s ≤ 30) then .inl (3, s) else
    .inr (upd (upd (upd a 2 x) 3 f) 4 s, a 2)
def i_caps (a : oA) (k x : Int32) : Rs :=
  if ¬ (0 ≤ k ∧ k ≤ 2) then .inl (2, k) else if ¬ (0 ≤ x ∧ x ≤ 999) then .inl (3, x) else
    .inr (upd a (10 + o_n k) x, a (10 + o_n k))
def i_comes (a : oA) : Rs := if a 5 = 6 then .inl (1, 6) else .inr (upd a 5 (a 5 + 1), a 5 + 1 - 1)
def i_earns (a : oA) (c x : Int32) : Rs :=
  if ¬ (0 ≤ c ∧ c ≤ a 5 - 1) then .inl (2, c) else if ¬ (1 ≤ x ∧ x ≤ 9999) then .inl (3, x) else
  if ¬ (a (o_at (o_n c) 0) + x ≤ 9999) then .inl (6, a (o_at (o_n c) 0) + x - 9999) else
    .inr (upd (upd (upd a (o_at (o_n c) 0) (a (o_at (o_n c) 0) + x)) (o_at (o_n c) 1) (a (o_at (o_n c) 1) + x)) 8 (a 8 + x), a (o_at (o_n c) 0) + x)
def o_slot (k : Nat) (pr : Prop) [Decidable pr] : Nat := 13 + 2 * k + (if pr then 0 else 1)
def i_claims (a : oA) (c k x : Int32) (pr : Prop) [Decidable pr] : Rs :=
  if ¬ (0 ≤ c ∧ c ≤ a 5 - 1) then .inl (2, c) else if ¬ (0 ≤ k ∧ k ≤ 2) then .inl (2, k) else if ¬ (1 ≤ x ∧ x ≤ 9999) then .inl (3, x) else
  if ¬ (x ≤ a (o_at (o_n c) 1)) then .inl (7, x - a (o_at (o_n c) 1)) else
    .inr (upd (upd (upd a (o_at (o_n c) 1) (a (o_at (o_n c) 1) + -x)) (o_at (o_n c) (o_slot (o_n k) pr)) (a (o_at (o_n c) (o_slot (o_n k) pr)) + x)) 9 (a 9 + x),
      o_cts (upd (upd (upd a (o_at (o_n c) 1) (a (o_at (o_n c) 1) + -x)) (o_at (o_n c) (o_slot (o_n k) pr)) (a (o_at (o_n c) (o_slot (o_n k) pr)) + x)) 9 (a 9 + x)) (o_n c) False (o_n k))
def i_proves (a : oA) (c k : Int32) : Rs :=
  if ¬ (0 ≤ c ∧ c ≤ a 5 - 1) then .inl (2, c) else if ¬ (0 ≤ k ∧ k ≤ 2) then .inl (2, k) else
  if a (o_at (o_n c) (13 + 2 * o_n k + 1)) = 0 then .inl (8, k) else
    .inr (upd (upd a (o_at (o_n c) (13 + 2 * o_n k)) (a (o_at (o_n c) (13 + 2 * o_n k)) + a (o_at (o_n c) (13 + 2 * o_n k + 1)))) (o_at (o_n c) (13 + 2 * o_n k + 1)) 0, a (o_at (o_n c) (13 + 2 * o_n k + 1)))
theorem o_n_nI {n : Nat} (h : n < 2 ^ 31) : o_n (nI n) = n := nI_clamp h
/-- an index that was looked at -/
theorem o_ix {x y : Int32} {n : Nat} (h : 0 ≤ x ∧ x ≤ y) (hy : y = nI n - 1) (hn : n < 2 ^ 31) : ∃ j : Nat, j < n ∧ x = nI j := by
  obtain ⟨h1, h2⟩ := h
  obtain ⟨j, hj, rfl⟩ := nI_of (x := x) (Int32.not_lt.mpr h1)
  refine ⟨j, ?_, rfl⟩
  subst hy
  rw [Int32.le_iff_toInt_le, nI_toInt hj] at h2
  have h3 : (nI n - 1 : Int32).toInt = (n : Int) - 1 := by
    cases n with
    | zero => decide
    | succ n => rw [nI_pred, nI_toInt (by omega)]; omega
  omega
theorem o_ixl {x : Int32} {n : Nat} {y : Int32} (h : 0 ≤ x ∧ x ≤ y) (hy : y = nI n) (hn : n < 2 ^ 31) : ∃ j : Nat, j ≤ n ∧ x = nI j := by
  obtain ⟨h1, h2⟩ := h
  obtain ⟨j, hj, rfl⟩ := nI_of (x := x) (Int32.not_lt.mpr h1)
  exact ⟨j, cmp_le h2 rfl hy hj hn, rfl⟩
def mo_cpk (σ : MS) (i j fr to k : Nat) : MS := (σ.1, va_up σ.2 j (va_cpy (σ.2 i) (σ.2 j) fr to k))
theorem mo_cpk_0 {σ : MS} {i j fr to : Nat} : mo_cpk σ i j fr to 0 = σ := by
  unfold mo_cpk
  refine Prod.ext rfl ?_
  funext k
  by_cases hk : k = j
  · subst hk
    refine (va_up_self ..).trans ?_
    funext q
    unfold va_cpy
    rw [if_neg (by omega)]
  · exact va_up_ne _ _ hk
theorem mo_cpk_src {σ : MS} {i j fr to k q : Nat} (h : i ≠ j) : (mo_cpk σ i j fr to k).2 i q = σ.2 i q := by
  unfold mo_cpk
  show va_up σ.2 j _ i q = _
  rw [va_up_ne _ _ h]
theorem va_cpy_s (f g : Nat → Int32) (sp dp k : Nat) : upd (va_cpy f g sp dp k) (dp + k) (f (sp + k)) = va_cpy f g sp dp (k + 1) := by
  funext q
  unfold upd va_cpy
  by_cases h1 : q = dp + k
  · subst h1
    rw [if_pos rfl, if_pos (by omega)]
    congr 1; omega
  · rw [if_neg h1]
    by_cases h2 : dp ≤ q ∧ q < dp + k
    · rw [if_pos h2, if_pos (by omega)]
    · rw [if_neg h2, if_neg (by omega)]
theorem mo_cpk_s {σ : MS} {i j fr to k : Nat} : mo_sa (mo_cpk σ i j fr to k) j (to + k) (σ.2 i (fr + k)) = mo_cpk σ i j fr to (k + 1) := by
  unfold mo_sa mo_cpk
  refine Prod.ext rfl ?_
  show va_up (va_up σ.2 j (va_cpy (σ.2 i) (σ.2 j) fr to k)) j (upd (va_up σ.2 j (va_cpy (σ.2 i) (σ.2 j) fr to k) j) (to + k) (σ.2 i (fr + k))) = va_up σ.2 j (va_cpy (σ.2 i) (σ.2 j) fr to (k + 1))
  rw [va_up_self, va_cpy_s]
  funext q
  by_cases hq : q = j
  · subst hq; rw [va_up_self, va_up_self]
  · rw [va_up_ne _ _ hq, va_up_ne _ _ hq, va_up_ne _ _ hq]
def m_beg (σ : MS) : MS := mo_st (mo_st (mo_cp σ 0 1 0 0) 16 0) 15 0
def m_gv (A : Prop) [Decidable A] (by' : Int32) (B : Prop) [Decidable B] (ot : Int32) : Int32 := if A then (if B then 0 else ot) else by'
theorem m_gv_t {A B : Prop} [Decidable A] [Decidable B] {x y : Int32} (h : A ∧ B) : m_gv A x B y = 0 := by unfold m_gv; rw [if_pos h.1, if_pos h.2]
def m_shk (σ : MS) (k : Nat) : MS := (σ.1, va_up σ.2 3 (va_cpy (σ.2 3) (σ.2 3) 137 0 k))
theorem m_shk_0 {σ : MS} : m_shk σ 0 = σ := by
  unfold m_shk
  refine Prod.ext rfl ?_
  funext k
  by_cases hk : k = 3
  · subst hk
    show va_up σ.2 3 (va_cpy (σ.2 3) (σ.2 3) 137 0 0) 3 = _
    rw [va_up_self]
    funext q
    unfold va_cpy
    rw [if_neg (by omega)]
  · exact va_up_ne _ _ hk
theorem m_shk_src {σ : MS} {k : Nat} : (m_shk σ k).2 3 (k + 137) = σ.2 3 (137 + k) := by
  show va_up σ.2 3 (va_cpy (σ.2 3) (σ.2 3) 137 0 k) 3 (k + 137) = _
  rw [va_up_self]
  unfold va_cpy
  rw [if_neg (by omega), Nat.add_comm]
theorem m_shk_s {σ : MS} {k : Nat} : mo_sa (m_shk σ k) 3 k (σ.2 3 (137 + k)) = m_shk σ (k + 1) := by
  unfold mo_sa m_shk
  refine Prod.ext rfl ?_
  show va_up (va_up σ.2 3 (va_cpy (σ.2 3) (σ.2 3) 137 0 k)) 3 (upd (va_up σ.2 3 (va_cpy (σ.2 3) (σ.2 3) 137 0 k) 3) k (σ.2 3 (137 + k))) = va_up σ.2 3 (va_cpy (σ.2 3) (σ.2 3) 137 0 (k + 1))
  have e := va_cpy_s (σ.2 3) (σ.2 3) 137 0 k
  rw [Nat.zero_add] at e
  rw [va_up_self, e]
  funext q
  by_cases hq : q = 3
  · subst hq; rw [va_up_self, va_up_self]
  · rw [va_up_ne _ _ hq, va_up_ne _ _ hq, va_up_ne _ _ hq]
def m_rem (σ : MS) : MS := if σ.1 5 = 8 then mo_st (mo_cp (mo_st (m_shk σ 959) 5 7) 1 3 0 (7 * 137)) 5 (nI (7 + 1)) else mo_st (mo_cp σ 1 3 0 (o_n (σ.1 5) * 137)) 5 (nI (o_n (σ.1 5) + 1))
def m_endr (σ : MS) : MS := mo_cp (mo_st (mo_st (mo_st (mo_st σ 6 (σ.1 16)) 7 (σ.1 17)) 8 0) 15 1) 1 0 0 0
theorem mo_sa_eq {σ : MS} {n k : Nat} {v : Int32} : (mo_sa σ n k v).2 n k = v := by
  show va_up σ.2 n (upd (σ.2 n) k v) n k = v
  rw [va_up_self]
  simp [upd]
theorem mo_sa_ne {σ : MS} {n k j : Nat} {v : Int32} (h : j ≠ k) : (mo_sa σ n k v).2 n j = σ.2 n j := by
  show va_up σ.2 n (upd (σ.2 n) k v) n j = σ.2 n j
  rw [va_up_self]
  simp [upd, h]
theorem mo_na_2 {σ : MS} {a : oA} : (mo_na σ a).2 0 = a := va_up_self σ.2 0 a
theorem upd_eq {f : Nat → Int32} {k : Nat} {v : Int32} : upd f k v k = v := by simp [upd]
theorem upd_ne {f : Nat → Int32} {k j : Nat} {v : Int32} (h : j ≠ k) : upd f k v j = f j := by simp [upd, h]
def m_with (σ : MS) (x : Option Nat) : MS := ((match x with
  | none => σ.1
  | some k => upd (upd σ.1 16 4) 17 (nI k)), σ.2)
theorem m_with_0 {σ : MS} : m_with σ none = σ := rfl
theorem o_with_s {a : oA} {e : Int32} {b : Nat} : o_with a e (b + 1) = match o_with a e b with
    | some k => some k
    | none => if a (13 + 2 * b) = e then some b else none := rfl
theorem m_with_s {σ : MS} {e : Int32} {b : Nat} (h16 : σ.1 16 = 0) : mo_hin (m_with σ (o_with (σ.2 0) e b)) (σ.2 0 (13 + 2 * b) = e) 4 (nI b) = m_with σ (o_with (σ.2 0) e (b + 1)) := by
  rw [o_with_s]
  cases h : o_with (σ.2 0) e b with
  | none =>
    dsimp only
    by_cases he : σ.2 0 (13 + 2 * b) = e
    · rw [mo_hin_t he (show (m_with σ none).1 16 = 0 from h16), if_pos he]; rfl
    · rw [mo_hin_f he, if_neg he]
  | some k => exact mo_hin_r (show ¬ (m_with σ (some k)).1 16 = 0 from (by show ¬ upd (upd σ.1 16 4) 17 (nI k) 16 = 0; simp [upd]))
theorem o_plc_s {a : oA} {e : Int32} {b : Nat} : nI (o_plc a e b) + b01 (¬ (e ≤ a (13 + 2 * b))) = nI (o_plc a e (b + 1)) := by
  show _ = nI (o_plc a e b + (if a (13 + 2 * b) < e then 1 else 0))
  by_cases h : a (13 + 2 * b) < e
  · rw [if_pos h, b01_t (Int32.not_le.mpr h)]; exact nI_1 _
  · rw [if_neg h, b01_f (fun z => z (Int32.not_lt.mp h)), Int32.add_zero, Nat.add_zero]
theorem o_plc_le {a : oA} {e : Int32} : ∀ n, o_plc a e n ≤ n
  | 0 => Nat.le_refl _
  | n + 1 => by
    have h := o_plc_le (a := a) (e := e) n
    unfold o_plc
    split <;> omega
theorem o_plc_pos {a : oA} {e : Int32} (h : a 13 < e) : ∀ n, 1 ≤ n → 1 ≤ o_plc a e n
  | n + 1, _ => by
    unfold o_plc
    cases n with
    | zero => rw [if_pos h]; omega
    | succ n => have := o_plc_pos h (n + 1) (by omega); omega
theorem o_shu_0 {a : oA} {n : Nat} : o_shu a n n = a := by
  funext j
  unfold o_shu
  rw [if_neg (by omega)]
theorem o_shu_at {a : oA} {p n j : Nat} (h : j < 13 + p + 2) : o_shu a p n j = a j := by
  unfold o_shu
  rw [if_neg (by omega)]
theorem o_shu_s {a : oA} {k n : Nat} (h : k < n) : upd (o_shu a (k + 1) n) (13 + k + 2) (a (13 + k)) = o_shu a k n := by
  funext j
  unfold upd o_shu
  by_cases h1 : j = 13 + k + 2
  · subst h1
    rw [if_pos rfl, if_pos (by omega)]
    congr 1
  · rw [if_neg h1]
    by_cases h2 : 13 + (k + 1) + 2 ≤ j ∧ j < 13 + n + 2
    · rw [if_pos h2, if_pos (by omega)]
    · rw [if_neg h2, if_neg (by omega)]
theorem o_shd_0 {a : oA} {p : Nat} : o_shd a p p = a := by
  funext j
  unfold o_shd
  rw [if_neg (by omega)]
theorem o_shd_at {a : oA} {p n j : Nat} (h : j < 13 + p ∨ 13 + n ≤ j) : o_shd a p n j = a j := by
  unfold o_shd
  rw [if_neg (by omega)]
theorem o_shd_s {a : oA} {p k : Nat} (h : p ≤ k) : upd (o_shd a p k) (13 + k) (a (13 + k + 2)) = o_shd a p (k + 1) := by
  funext j
  unfold upd o_shd
  by_cases h1 : j = 13 + k
  · subst h1
    rw [if_pos rfl, if_pos (by omega)]
  · rw [if_neg h1]
    by_cases h2 : 13 + p ≤ j ∧ j < 13 + k
    · rw [if_pos h2, if_pos (by omega)]
    · rw [if_neg h2, if_neg (by omega)]
