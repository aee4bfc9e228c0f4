/-! ===== the model reads its text ===== -/
set_option maxRecDepth 100000
abbrev TS : Type := Nat × Int32
/-- where the text stands, what is wrong -/
def m_ts (σ : MS) (s : TS) : MS := mo_st (mo_st σ 19 (nI s.1)) 20 s.2
theorem m_ts_eq {σ : MS} {s : TS} (h1 : σ.1 19 = nI s.1) (h2 : σ.1 20 = s.2) : m_ts σ s = σ := by
  unfold m_ts mo_st
  refine Prod.ext ?_ rfl
  funext j
  by_cases h : j = 20
  · subst h; simp [upd, h2]
  · by_cases h9 : j = 19
    · subst h9; simp [upd, h1]
    · simp [upd, h, h9]
theorem m_ts_19 {σ : MS} {s : TS} {k : Nat} : mo_st (m_ts σ s) 19 (nI k) = m_ts σ (k, s.2) := by
  unfold m_ts mo_st
  refine Prod.ext ?_ rfl
  funext j
  by_cases h : j = 19 <;> by_cases h9 : j = 20 <;> simp [upd, h, h9]
theorem m_ts_20 {σ : MS} {s : TS} {v : Int32} : mo_st (m_ts σ s) 20 v = m_ts σ (s.1, v) := mo_st_st _ _ _ _
theorem m_ts_k {σ : MS} {s : TS} {v : Int32} {k : Nat} (h1 : k ≠ 19) (h2 : k ≠ 20) : mo_st (m_ts σ s) k v = m_ts (mo_st σ k v) s := by
  unfold m_ts mo_st
  refine Prod.ext ?_ rfl
  funext j
  by_cases h : j = k
  · subst h; simp [upd, h1, h2]
  · simp [upd, h]
def t_sg (T : Nat → Int32) (n a : Nat) : Int32 := if a < n then T a else -1
def t_tk (T : Nat → Int32) (n : Nat) (s : TS) (lo hi : Int32) : TS × Int32 :=
  if s.2 = -1 ∧ (lo ≤ t_sg T n s.1 ∧ t_sg T n s.1 ≤ hi) then ((s.1 + 1, s.2), T s.1 - 48) else ((s.1, if s.2 = -1 then nI s.1 else s.2), 0)
theorem t_sg_lt {T : Nat → Int32} {n a : Nat} {lo : Int32} (h0 : 0 ≤ lo) (h : lo ≤ t_sg T n a) : a < n := by
  by_cases h9 : a < n
  · exact h9
  · unfold t_sg at h
    rw [if_neg h9] at h
    exact absurd (Int32.le_trans h0 h) (by decide)
theorem t_tk_le {T : Nat → Int32} {n : Nat} {s : TS} {lo hi : Int32} (h0 : 0 ≤ lo) (hs : s.1 ≤ n) : (t_tk T n s lo hi).1.1 ≤ n := by
  unfold t_tk
  by_cases h : s.2 = -1 ∧ (lo ≤ t_sg T n s.1 ∧ t_sg T n s.1 ≤ hi)
  · rw [if_pos h]
    have := t_sg_lt h0 h.2.1
    show s.1 + 1 ≤ n
    omega
  · rw [if_neg h]; exact hs
def t_nl (T : Nat → Int32) (n : Nat) : Nat → TS × Int32 → TS × Int32
  | 0, p => p
  | j + 1, p => if p.1.2 = -1 ∧ (48 ≤ t_sg T n p.1.1 ∧ t_sg T n p.1.1 ≤ 57) then t_nl T n j ((t_tk T n p.1 48 57).1, 10 * p.2 + (t_tk T n p.1 48 57).2) else p
def t_num (T : Nat → Int32) (n : Nat) (s : TS) (ah : Int32) (d : Nat) : TS × Int32 := t_nl T n (d - 1) (t_tk T n (t_tk T n s ah ah).1 48 57)
theorem t_nl_le {T : Nat → Int32} {n : Nat} : ∀ (j : Nat) (p : TS × Int32), p.1.1 ≤ n → (t_nl T n j p).1.1 ≤ n
  | 0, _, h => h
  | j + 1, p, h => by
    unfold t_nl
    split
    · exact t_nl_le j _ (t_tk_le (by decide) h)
    · exact h
theorem t_num_le {T : Nat → Int32} {n : Nat} {s : TS} {ah : Int32} {d : Nat} (h0 : 0 ≤ ah) (hs : s.1 ≤ n) : (t_num T n s ah d).1.1 ≤ n := t_nl_le _ _ (t_tk_le (by decide) (t_tk_le h0 hs))
theorem t_nl_no {T : Nat → Int32} {n j : Nat} {p : TS × Int32} (h : ¬ (p.1.2 = -1 ∧ (48 ≤ t_sg T n p.1.1 ∧ t_sg T n p.1.1 ≤ 57))) : t_nl T n j p = p := by
  cases j with
  | zero => rfl
  | succ j => exact if_neg h
/-- how far a word goes on as the text -/
def t_lm (T : Nat → Int32) (n a b : Nat) : Nat → Nat → Nat
  | 0, k => k
  | j + 1, k => if a + k < n ∧ T (a + k) = hv_tb 23 (b + k) then t_lm T n a b j (k + 1) else k
def t_wn (w : Nat) : Nat := o_beg (w + 1) - o_beg w
def t_wl (T : Nat → Int32) (n a w : Nat) : Nat := t_lm T n a (o_beg w) (t_wn w) 0
def t_wd (T : Nat → Int32) (n a : Nat) : Nat → Nat × Int32
  | 0 => (a, -1)
  | w + 1 => if (t_wd T n a w).2 = -1 then (Nat.max (t_wd T n a w).1 (a + t_wl T n a w), if t_wl T n a w = t_wn w then nI w else -1) else t_wd T n a w
theorem t_wd_up {T : Nat → Int32} {n a w : Nat} (h : ¬ (t_wd T n a w).2 = -1) : ∀ j, t_wd T n a (w + j) = t_wd T n a w
  | 0 => rfl
  | j + 1 => by
    show (if (t_wd T n a (w + j)).2 = -1 then _ else t_wd T n a (w + j)) = _
    rw [t_wd_up h j, if_neg h]
theorem t_lm_ge {T : Nat → Int32} {n a b : Nat} : ∀ (j k : Nat), k ≤ t_lm T n a b j k
  | 0, k => Nat.le_refl _
  | j + 1, k => by
    unfold t_lm
    split
    · exact Nat.le_trans (Nat.le_succ k) (t_lm_ge j (k + 1))
    · exact Nat.le_refl _
theorem t_lm_le {T : Nat → Int32} {n a b : Nat} : ∀ (j k : Nat), t_lm T n a b j k ≤ k + j
  | 0, k => Nat.le_refl _
  | j + 1, k => by
    unfold t_lm
    split
    · have := t_lm_le (T := T) (n := n) (a := a) (b := b) j (k + 1); omega
    · omega
theorem t_lm_n {T : Nat → Int32} {n a b : Nat} : ∀ (j k : Nat), a + k ≤ n → a + t_lm T n a b j k ≤ n
  | 0, k, h => h
  | j + 1, k, h => by
    unfold t_lm
    split
    · rename_i h9; exact t_lm_n j (k + 1) (by omega)
    · exact h
theorem t_lm_no {T : Nat → Int32} {n a b j k : Nat} (h : ¬ (a + k < n ∧ T (a + k) = hv_tb 23 (b + k))) : t_lm T n a b j k = k := by
  cases j with
  | zero => rfl
  | succ j => exact if_neg h
theorem t_lm_s {T : Nat → Int32} {n a b j k : Nat} (h : a + k < n ∧ T (a + k) = hv_tb 23 (b + k)) : t_lm T n a b (j + 1) k = t_lm T n a b j (k + 1) := if_pos h
theorem t_wl_n {T : Nat → Int32} {n a w : Nat} (h : a ≤ n) : a + t_wl T n a w ≤ n := t_lm_n _ _ h
theorem t_wd_n {T : Nat → Int32} {n a : Nat} (h : a ≤ n) : ∀ w, (t_wd T n a w).1 ≤ n ∧ a ≤ (t_wd T n a w).1
  | 0 => ⟨h, Nat.le_refl _⟩
  | w + 1 => by
    have h9 := t_wd_n (T := T) h w
    have h8 := t_wl_n (T := T) (w := w) h
    unfold t_wd
    split
    · refine ⟨Nat.max_le.mpr ⟨h9.1, h8⟩, Nat.le_trans h9.2 (Nat.le_max_left _ _)⟩
    · exact h9
theorem t_wd_ix {T : Nat → Int32} {n a : Nat} : ∀ w, (t_wd T n a w).2 = -1 ∨ ∃ f, f < w ∧ (t_wd T n a w).2 = nI f ∧ t_wl T n a f = t_wn f
  | 0 => Or.inl rfl
  | w + 1 => by
    unfold t_wd
    split
    · by_cases h : t_wl T n a w = t_wn w
      · exact Or.inr ⟨w, Nat.lt_succ_self w, if_pos h, h⟩
      · exact Or.inl (if_neg h)
    · rcases t_wd_ix (T := T) (n := n) (a := a) w with h | ⟨f, h1, h2, h3⟩
      · exact Or.inl h
      · exact Or.inr ⟨f, by omega, h2, h3⟩
def t_word (T : Nat → Int32) (n : Nat) (s : TS) : TS × Nat :=
  if (t_wd T n s.1 8).2 = -1 then ((s.1, nI (t_wd T n s.1 8).1), 7) else ((s.1 + t_wn (o_n (t_wd T n s.1 8).2), s.2), o_n (t_wd T n s.1 8).2)
theorem o_beg_s : ∀ w, w < 8 → o_beg w < o_beg (w + 1) ∧ o_beg (w + 1) ≤ 36 := by decide
theorem tb_255 : ∀ t, t < 24 → ∀ j, j < hv_tn t → hv_tb t j &&& 255 = hv_tb t j := by decide +kernel
theorem t_word_le {T : Nat → Int32} {n : Nat} {s : TS} (hs : s.1 ≤ n) : (t_word T n s).1.1 ≤ n := by
  unfold t_word
  split
  · exact hs
  · rename_i h
    rcases t_wd_ix (T := T) (n := n) (a := s.1) 8 with h9 | ⟨f, h1, h2, h3⟩
    · exact absurd h9 h
    · rw [h2, o_n_nI (by omega)]
      have := t_wl_n (T := T) (w := f) hs
      show s.1 + t_wn f ≤ n
      omega
theorem mx_nI {a b : Nat} (ha : a < 2 ^ 31) (hb : b < 2 ^ 31) : mx (nI a) (nI b) = nI (Nat.max a b) := by
  unfold mx
  by_cases h : a ≤ b
  · rw [show Nat.max a b = b from Nat.max_eq_right h]
    have h9 := (nI_leI ha hb).mpr h
    by_cases h8 : nI a = nI b
    · simp [h8]
    · have h7 : nI a < nI b := (nI_ltI ha hb).mpr (by
        rcases Nat.lt_or_ge a b with z | z
        · exact z
        · exact absurd (congrArg nI (Nat.le_antisymm h z)) h8)
      first
        | rw [if_pos h9]
        | rw [if_neg (Int32.not_le.mpr h7)]
        | rw [if_neg (Int32.not_lt.mpr h9)]
        | rw [if_pos h7]
  · have h1 : b < a := by omega
    rw [show Nat.max a b = a from Nat.max_eq_left (by omega)]
    have h7 : nI b < nI a := (nI_ltI hb ha).mpr h1
    first
      | rw [if_neg (Int32.not_le.mpr h7)]
      | rw [if_pos (Int32.le_of_lt h7)]
      | rw [if_pos h7]
      | rw [if_neg (fun z => Int32.lt_irrefl (Int32.lt_trans z h7))]
theorem o_wn : ∀ k, k < 8 → nI (o_beg (k + 1)) - nI (o_beg k) = nI (t_wn k) := by decide
theorem t_wn_36 : ∀ k, k < 8 → t_wn k ≤ 7 ∧ o_beg k + t_wn k ≤ 36 := by decide
theorem m_ts_g19 {σ : MS} {s : TS} : (m_ts σ s).1 19 = nI s.1 := rfl
theorem m_ts_g20 {σ : MS} {s : TS} : (m_ts σ s).1 20 = s.2 := rfl
theorem m_ts_gk {σ : MS} {s : TS} {k : Nat} (h1 : k ≠ 19) (h2 : k ≠ 20) : (m_ts σ s).1 k = σ.1 k := by
  unfold m_ts mo_st
  show upd (upd σ.1 19 (nI s.1)) 20 s.2 k = σ.1 k
  rw [upd_ne h2, upd_ne h1]
