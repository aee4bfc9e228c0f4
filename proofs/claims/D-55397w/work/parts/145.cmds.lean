/-! ===== commands ===== -/
set_option maxRecDepth 100000
abbrev Cmd : Type := Nat × Int32 × Int32 × Int32 × Int32
/-- the last part of a command: a sign that may stand there -/
def t_pl (T : Nat → Int32) (n : Nat) (s : TS) : TS × Int32 := if s.2 = -1 ∧ t_sg T n s.1 = 43 then ((s.1 + 1, s.2), 1) else (s, 0)
/-- a command behind its word: its numbers, one by one -/
def t_n1 (T : Nat → Int32) (n : Nat) (s : TS) (f : Nat) : TS × Int32 := t_num T n s 32 (if f = 3 then 4 else 1)
def t_n2 (T : Nat → Int32) (n : Nat) (s : TS) (f : Nat) : TS × Int32 := t_num T n (t_n1 T n s f).1 (if 2 < f then 61 else 32) (if f = 1 ∨ f = 2 then 1 else 4)
def t_n3 (T : Nat → Int32) (n : Nat) (s : TS) (f : Nat) : TS × Int32 := t_num T n (t_n2 T n s f).1 32 4
def t_n4 (T : Nat → Int32) (n : Nat) (s : TS) (f : Nat) : TS × Int32 := t_pl T n (t_n3 T n s f).1
def t_arg (T : Nat → Int32) (n : Nat) (s : TS) (f : Nat) : TS × Cmd :=
  if f = 7 then (s, (7, 0, 0, 0, 0)) else if f = 6 then ((t_n1 T n s f).1, (6, (t_n1 T n s f).2, 0, 0, 0)) else
  if f = 1 then ((t_n4 T n s f).1, (1, (t_n1 T n s f).2, (t_n2 T n s f).2, (t_n3 T n s f).2, (t_n4 T n s f).2)) else ((t_n2 T n s f).1, (f, (t_n1 T n s f).2, (t_n2 T n s f).2, 0, 0))
def t_cmd (T : Nat → Int32) (n : Nat) (s : TS) : TS × Cmd := t_arg T n (t_word T n s).1 (t_word T n s).2
def m_has (τ : MS) (k : Nat) (c : Cmd) : Prop := τ.2 22 k = nI c.1 ∧ (c.1 < 7 → τ.2 23 (4 * k) = c.2.1) ∧ (c.1 < 6 → τ.2 23 (4 * k + 1) = c.2.2.1) ∧ (c.1 = 1 → τ.2 23 (4 * k + 2) = c.2.2.2.1 ∧ τ.2 23 (4 * k + 3) = c.2.2.2.2)
def m_cmd (σ : MS) (t : Nat) (c : Cmd) (τ : MS) : Prop := (∀ k, k ≠ 21 → τ.1 k = σ.1 k) ∧ τ.1 21 = nI (t + 1) ∧ (∀ k, k ≠ 22 → k ≠ 23 → τ.2 k = σ.2 k) ∧ (∀ j, j ≠ t → τ.2 22 j = σ.2 22 j) ∧ (∀ j, j < 4 * t → τ.2 23 j = σ.2 23 j) ∧ m_has τ t c
theorem t_pl_le {T : Nat → Int32} {n : Nat} {s : TS} (hs : s.1 ≤ n) : (t_pl T n s).1.1 ≤ n := by
  unfold t_pl
  split
  · rename_i h
    have := t_sg_lt (T := T) (n := n) (a := s.1) (lo := 43) (by decide) (by rw [h.2]; decide)
    show s.1 + 1 ≤ n
    omega
  · exact hs
theorem t_n1_le {T : Nat → Int32} {n f : Nat} {s : TS} (hs : s.1 ≤ n) : (t_n1 T n s f).1.1 ≤ n := t_num_le (by decide) hs
theorem i_61_32 {f : Nat} : (0 : Int32) ≤ (if 2 < f then 61 else 32) := by by_cases h : 2 < f <;> simp [h]
theorem t_n2_le {T : Nat → Int32} {n f : Nat} {s : TS} (hs : s.1 ≤ n) : (t_n2 T n s f).1.1 ≤ n := t_num_le i_61_32 (t_n1_le hs)
theorem t_n3_le {T : Nat → Int32} {n f : Nat} {s : TS} (hs : s.1 ≤ n) : (t_n3 T n s f).1.1 ≤ n := t_num_le (by decide) (t_n2_le hs)
theorem t_n4_le {T : Nat → Int32} {n f : Nat} {s : TS} (hs : s.1 ≤ n) : (t_n4 T n s f).1.1 ≤ n := t_pl_le (t_n3_le hs)
theorem t_arg_le {T : Nat → Int32} {n f : Nat} {s : TS} (hs : s.1 ≤ n) : (t_arg T n s f).1.1 ≤ n := by
  unfold t_arg
  by_cases h7 : f = 7
  · rw [if_pos h7]; exact hs
  · rw [if_neg h7]
    by_cases h6 : f = 6
    · rw [if_pos h6]; dsimp only; exact t_n1_le (T := T) (f := f) hs
    · rw [if_neg h6]
      by_cases h1 : f = 1
      · rw [if_pos h1]; dsimp only; exact t_n4_le (T := T) (f := f) hs
      · rw [if_neg h1]; dsimp only; exact t_n2_le (T := T) (f := f) hs
theorem t_cmd_eq (T : Nat → Int32) (n : Nat) (s : TS) : t_cmd T n s = t_arg T n (t_word T n s).1 (t_word T n s).2 := rfl
theorem t_cmd_le {T : Nat → Int32} {n : Nat} {s : TS} (hs : s.1 ≤ n) : (t_cmd T n s).1.1 ≤ n := by
  rw [t_cmd_eq]
  exact t_arg_le (T := T) (f := (t_word T n s).2) (t_word_le hs)
/-- .. and it goes on -/
theorem nI_nm1 {n : Nat} (h : n < 2 ^ 31) : ¬ nI n = -1 := fun z => by
  have h9 := nI_pos' h
  rw [z] at h9
  exact absurd h9 (by decide)
theorem t_tk_adv {T : Nat → Int32} {n : Nat} {s : TS} {lo hi : Int32} (hs : s.1 ≤ 60) (h : (t_tk T n s lo hi).1.2 = -1) : s.2 = -1 ∧ (t_tk T n s lo hi).1.1 = s.1 + 1 := by
  unfold t_tk at h ⊢
  by_cases h9 : s.2 = -1 ∧ (lo ≤ t_sg T n s.1 ∧ t_sg T n s.1 ≤ hi)
  · rw [if_pos h9]; exact ⟨h9.1, rfl⟩
  · rw [if_neg h9] at h
    exfalso
    by_cases h8 : s.2 = -1
    · simp only [h8, if_true] at h
      exact nI_nm1 (by omega) h
    · simp only [h8, if_false] at h
theorem t_nl_adv {T : Nat → Int32} {n : Nat} (hn : n ≤ 60) : ∀ (j : Nat) (p : TS × Int32), p.1.1 ≤ n → (t_nl T n j p).1.2 = -1 → p.1.2 = -1 ∧ p.1.1 ≤ (t_nl T n j p).1.1
  | 0, _, _, h => ⟨h, Nat.le_refl _⟩
  | j + 1, p, hp, h => by
    unfold t_nl at h ⊢
    by_cases h9 : p.1.2 = -1 ∧ (48 ≤ t_sg T n p.1.1 ∧ t_sg T n p.1.1 ≤ 57)
    · rw [if_pos h9] at h ⊢
      have h8 := t_nl_adv hn j ((t_tk T n p.1 48 57).1, 10 * p.2 + (t_tk T n p.1 48 57).2) (t_tk_le (by decide) hp) h
      have h7 := t_tk_adv (by omega) h8.1
      exact ⟨h9.1, by have h6 := h8.2; simp only at h6; omega⟩
    · rw [if_neg h9] at h ⊢; exact ⟨h, Nat.le_refl _⟩
theorem t_num_adv {T : Nat → Int32} {n : Nat} {s : TS} {ah : Int32} {d : Nat} (hn : n ≤ 60) (h0 : 0 ≤ ah) (hs : s.1 ≤ n) (h : (t_num T n s ah d).1.2 = -1) : s.2 = -1 ∧ s.1 + 2 ≤ (t_num T n s ah d).1.1 := by
  have h1 := t_tk_le (T := T) (n := n) (s := s) (lo := ah) (hi := ah) h0 hs
  have h3 := t_nl_adv hn (d - 1) (t_tk T n (t_tk T n s ah ah).1 48 57) (t_tk_le (by decide) h1) h
  have h4 := t_tk_adv (by omega) h3.1
  have h5 := t_tk_adv (by omega) h4.1
  refine ⟨h5.1, ?_⟩
  have h6 := h3.2
  show s.1 + 2 ≤ (t_nl T n (d - 1) (t_tk T n (t_tk T n s ah ah).1 48 57)).1.1
  omega
theorem t_pl_adv {T : Nat → Int32} {n : Nat} {s : TS} (h : (t_pl T n s).1.2 = -1) : s.2 = -1 ∧ s.1 ≤ (t_pl T n s).1.1 := by
  unfold t_pl at h ⊢
  split
  · rename_i h9; exact ⟨h9.1, Nat.le_succ _⟩
  · rename_i h9; rw [if_neg h9] at h; exact ⟨h, Nat.le_refl _⟩
theorem t_n1_adv {T : Nat → Int32} {n f : Nat} {s : TS} (hn : n ≤ 60) (hs : s.1 ≤ n) (h : (t_n1 T n s f).1.2 = -1) : s.2 = -1 ∧ s.1 + 2 ≤ (t_n1 T n s f).1.1 := t_num_adv hn (by decide) hs h
theorem t_n2_adv {T : Nat → Int32} {n f : Nat} {s : TS} (hn : n ≤ 60) (hs : s.1 ≤ n) (h : (t_n2 T n s f).1.2 = -1) : s.2 = -1 ∧ s.1 + 2 ≤ (t_n2 T n s f).1.1 := by
  obtain ⟨a, b⟩ : (t_n1 T n s f).1.2 = -1 ∧ (t_n1 T n s f).1.1 + 2 ≤ (t_n2 T n s f).1.1 := t_num_adv hn i_61_32 (t_n1_le hs) h
  obtain ⟨c, d⟩ := t_n1_adv hn hs a
  exact ⟨c, by omega⟩
theorem t_n4_adv {T : Nat → Int32} {n f : Nat} {s : TS} (hn : n ≤ 60) (hs : s.1 ≤ n) (h : (t_n4 T n s f).1.2 = -1) : s.2 = -1 ∧ s.1 + 2 ≤ (t_n4 T n s f).1.1 := by
  obtain ⟨a, b⟩ : (t_n3 T n s f).1.2 = -1 ∧ (t_n3 T n s f).1.1 ≤ (t_n4 T n s f).1.1 := t_pl_adv h
  obtain ⟨a2, b2⟩ : (t_n2 T n s f).1.2 = -1 ∧ (t_n2 T n s f).1.1 + 2 ≤ (t_n3 T n s f).1.1 := t_num_adv hn (by decide) (t_n2_le hs) a
  obtain ⟨c, d⟩ := t_n2_adv hn hs a2
  exact ⟨c, by omega⟩
theorem t_arg_adv {T : Nat → Int32} {n f : Nat} {s : TS} (hn : n ≤ 60) (hs : s.1 ≤ n) (h : (t_arg T n s f).1.2 = -1) : s.2 = -1 ∧ s.1 + (if f = 7 then 0 else 2) ≤ (t_arg T n s f).1.1 := by
  unfold t_arg at h ⊢
  by_cases h7 : f = 7
  · rw [if_pos h7] at h ⊢; rw [if_pos h7]; exact ⟨h, Nat.le_refl _⟩
  · rw [if_neg h7] at h ⊢; rw [if_neg h7]
    by_cases h6 : f = 6
    · rw [if_pos h6] at h ⊢; dsimp only at h ⊢; exact t_n1_adv (T := T) (f := f) hn hs h
    · rw [if_neg h6] at h ⊢
      by_cases h1 : f = 1
      · rw [if_pos h1] at h ⊢; dsimp only at h ⊢; exact t_n4_adv (T := T) (f := f) hn hs h
      · rw [if_neg h1] at h ⊢; dsimp only at h ⊢; exact t_n2_adv (T := T) (f := f) hn hs h
theorem t_wn_3 : ∀ f, f < 8 → 3 ≤ t_wn f ∧ (f = 7 → t_wn f = 4) := by decide
theorem t_word_adv {T : Nat → Int32} {n : Nat} {s : TS} (hn : n ≤ 60) (hs : s.1 ≤ n) (h : (t_word T n s).1.2 = -1) : s.1 + (if (t_word T n s).2 = 7 then 4 else 3) ≤ (t_word T n s).1.1 ∧ (t_word T n s).2 < 8 := by
  unfold t_word at h ⊢
  by_cases h8 : (t_wd T n s.1 8).2 = -1
  · rw [if_pos h8] at h
    have := (t_wd_n (T := T) hs 8).1
    exact absurd h (nI_nm1 (by omega))
  · rw [if_neg h8] at h ⊢
    rcases t_wd_ix (T := T) (n := n) (a := s.1) 8 with z9 | ⟨f, f1, f2, f3⟩
    · exact absurd z9 h8
    · rw [f2, o_n_nI (by omega)]
      have h7 := t_wn_3 f f1
      show s.1 + (if f = 7 then 4 else 3) ≤ s.1 + t_wn f ∧ f < 8
      by_cases h6 : f = 7
      · rw [if_pos h6, h7.2 h6]; exact ⟨Nat.le_refl _, f1⟩
      · rw [if_neg h6]; exact ⟨by omega, f1⟩
theorem t_cmd_adv {T : Nat → Int32} {n : Nat} {s : TS} (hn : n ≤ 60) (hs : s.1 ≤ n) (h : (t_cmd T n s).1.2 = -1) : s.1 + 4 ≤ (t_cmd T n s).1.1 := by
  have hw := t_word_le (T := T) (n := n) hs
  rw [t_cmd_eq] at h ⊢
  obtain ⟨e1, e2⟩ := t_arg_adv (T := T) (s := (t_word T n s).1) (f := (t_word T n s).2) hn hw h
  have e3 := (t_word_adv hn hs e1).1
  by_cases h6 : (t_word T n s).2 = 7
  · rw [if_pos h6] at e2 e3; omega
  · rw [if_neg h6] at e2 e3; omega
def t_rdl (T : Nat → Int32) (n : Nat) : Nat → TS × List Cmd → TS × List Cmd
  | 0, p => p
  | j + 1, p => if p.1.2 = -1 ∧ p.1.1 < n then (if (t_tk T n p.1 59 59).1.2 = -1 then t_rdl T n j ((t_cmd T n (t_tk T n p.1 59 59).1).1, p.2 ++ [(t_cmd T n (t_tk T n p.1 59 59).1).2]) else t_rdl T n j ((t_tk T n p.1 59 59).1, p.2)) else p
def t_all (T : Nat → Int32) (n : Nat) : TS × List Cmd := t_rdl T n (n + 1) ((t_cmd T n (0, -1)).1, [(t_cmd T n (0, -1)).2])
theorem t_rdl_no {T : Nat → Int32} {n j : Nat} {p : TS × List Cmd} (h : ¬ (p.1.2 = -1 ∧ p.1.1 < n)) : t_rdl T n j p = p := by
  cases j with
  | zero => rfl
  | succ j => exact if_neg h
/-- what the model holds behind the commands cs -/
def m_rds (σ : MS) (cs : List Cmd) (τ : MS) : Prop := (∀ k, k ≠ 21 → k ≠ 19 → k ≠ 20 → τ.1 k = σ.1 k) ∧ τ.1 21 = nI cs.length ∧ (∀ k, k ≠ 22 → k ≠ 23 → τ.2 k = σ.2 k) ∧ ∀ k c, cs[k]? = some c → m_has τ k c
theorem m_rds.nx {σ τ τ2 : MS} {cs : List Cmd} {c : Cmd} (h : m_rds σ cs τ) (h2 : m_cmd τ cs.length c τ2) : m_rds σ (cs ++ [c]) τ2 := by
  obtain ⟨a1, a2, a3, a4⟩ := h
  obtain ⟨b1, b2, b3, b4, b5, b6⟩ := h2
  refine ⟨fun k k1 k2 k3 => (b1 k k1).trans (a1 k k1 k2 k3), by rw [b2, List.length_append]; rfl, fun k k1 k2 => (b3 k k1 k2).trans (a3 k k1 k2), fun k x hx => ?_⟩
  by_cases hk : k < cs.length
  · rw [List.getElem?_append_left hk] at hx
    obtain ⟨c1, c2, c3, c4⟩ := a4 k x hx
    exact ⟨(b4 k (by omega)).trans c1, fun z => (b5 _ (by omega)).trans (c2 z), fun z => (b5 _ (by omega)).trans (c3 z), fun z => ⟨(b5 _ (by omega)).trans (c4 z).1, (b5 _ (by omega)).trans (c4 z).2⟩⟩
  · by_cases hk2 : k = cs.length
    · subst hk2
      rw [List.getElem?_concat_length] at hx
      exact Option.some.inj hx ▸ b6
    · rw [List.getElem?_eq_none (by rw [List.length_append]; show cs.length + 1 ≤ k; omega)] at hx
      exact absurd hx (by simp)
