/-! ===== the commands of a text, done one behind the other ===== -/
set_option maxRecDepth 100000
def i_cmd (a : oA) (c : Cmd) : Rs := if c.1 = 0 then i_earns a c.2.1 c.2.2.1 else if c.1 = 1 then i_claims a c.2.1 c.2.2.1 c.2.2.2.1 (c.2.2.2.2 = 1) else if c.1 = 2 then i_proves a c.2.1 c.2.2.1 else if c.1 = 3 then i_tells a c.2.1 c.2.2.1 else if c.1 = 4 then i_rates a c.2.1 c.2.2.1 else if c.1 = 5 then i_caps a c.2.1 c.2.2.1 else if c.1 = 6 then i_drops a c.2.1 else i_year a
theorem i_cmd_0 {a : oA} {x y z w : Int32} : i_cmd a (0, x, y, z, w) = i_earns a x y := by
  unfold i_cmd
  dsimp only
  rw [if_pos rfl]
theorem i_cmd_1 {a : oA} {x y z w : Int32} : i_cmd a (1, x, y, z, w) = i_claims a x y z (w = 1) := by
  unfold i_cmd
  dsimp only
  rw [if_neg (show ¬ (1 : Nat) = 0 by decide), if_pos rfl]
theorem i_cmd_2 {a : oA} {x y z w : Int32} : i_cmd a (2, x, y, z, w) = i_proves a x y := by
  unfold i_cmd
  dsimp only
  rw [if_neg (show ¬ (2 : Nat) = 0 by decide), if_neg (show ¬ (2 : Nat) = 1 by decide), if_pos rfl]
theorem i_cmd_3 {a : oA} {x y z w : Int32} : i_cmd a (3, x, y, z, w) = i_tells a x y := by
  unfold i_cmd
  dsimp only
  rw [if_neg (show ¬ (3 : Nat) = 0 by decide), if_neg (show ¬ (3 : Nat) = 1 by decide), if_neg (show ¬ (3 : Nat) = 2 by decide), if_pos rfl]
theorem i_cmd_4 {a : oA} {x y z w : Int32} : i_cmd a (4, x, y, z, w) = i_rates a x y := by
  unfold i_cmd
  dsimp only
  rw [if_neg (show ¬ (4 : Nat) = 0 by decide), if_neg (show ¬ (4 : Nat) = 1 by decide), if_neg (show ¬ (4 : Nat) = 2 by decide), if_neg (show ¬ (4 : Nat) = 3 by decide), if_pos rfl]
theorem i_cmd_5 {a : oA} {x y z w : Int32} : i_cmd a (5, x, y, z, w) = i_caps a x y := by
  unfold i_cmd
  dsimp only
  rw [if_neg (show ¬ (5 : Nat) = 0 by decide), if_neg (show ¬ (5 : Nat) = 1 by decide), if_neg (show ¬ (5 : Nat) = 2 by decide), if_neg (show ¬ (5 : Nat) = 3 by decide), if_neg (show ¬ (5 : Nat) = 4 by decide), if_pos rfl]
theorem i_cmd_6 {a : oA} {x y z w : Int32} : i_cmd a (6, x, y, z, w) = i_drops a x := by
  unfold i_cmd
  dsimp only
  rw [if_neg (show ¬ (6 : Nat) = 0 by decide), if_neg (show ¬ (6 : Nat) = 1 by decide), if_neg (show ¬ (6 : Nat) = 2 by decide), if_neg (show ¬ (6 : Nat) = 3 by decide), if_neg (show ¬ (6 : Nat) = 4 by decide), if_neg (show ¬ (6 : Nat) = 5 by decide), if_pos rfl]
theorem i_cmd_7 {a : oA} {x y z w : Int32} : i_cmd a (7, x, y, z, w) = i_year a := by
  unfold i_cmd
  dsimp only
  rw [if_neg (show ¬ (7 : Nat) = 0 by decide), if_neg (show ¬ (7 : Nat) = 1 by decide), if_neg (show ¬ (7 : Nat) = 2 by decide), if_neg (show ¬ (7 : Nat) = 3 by decide), if_neg (show ¬ (7 : Nat) = 4 by decide), if_neg (show ¬ (7 : Nat) = 5 by decide), if_neg (show ¬ (7 : Nat) = 6 by decide)]
def i_all : oA → List Cmd → Nat → (Nat × Int32 × Int32) ⊕ oA
  | a, [], _ => .inr a
  | a, c :: cs, k => match i_cmd a c with
    | .inl x => .inl (k, x.1, x.2)
    | .inr y => i_all y.1 cs (k + 1)
/-- the office behind the first commands -/
def i_bef : oA → List Cmd → Nat → Option oA
  | a, _, 0 => some a
  | _, [], _ + 1 => none
  | a, c :: cs, k + 1 => match i_cmd a c with
    | .inl _ => none
    | .inr y => i_bef y.1 cs k
theorem i_bef_0 {a : oA} {cs : List Cmd} : i_bef a cs 0 = some a := by cases cs <;> rfl
theorem i_bef_c {a : oA} {c : Cmd} {cs : List Cmd} {k : Nat} {y : oA × Int32} (h : i_cmd a c = .inr y) : i_bef a (c :: cs) (k + 1) = i_bef y.1 cs k := by rw [i_bef, h]
theorem i_bef_r {a : oA} {c : Cmd} {cs : List Cmd} {k : Nat} {x : Int32 × Int32} (h : i_cmd a c = .inl x) : i_bef a (c :: cs) (k + 1) = none := by rw [i_bef, h]
theorem i_all_r {a : oA} {c : Cmd} {cs : List Cmd} {k : Nat} {x : Int32 × Int32} (h : i_cmd a c = .inl x) : i_all a (c :: cs) k = .inl (k, x.1, x.2) := by rw [i_all, h]
theorem i_all_c {a : oA} {c : Cmd} {cs : List Cmd} {k : Nat} {y : oA × Int32} (h : i_cmd a c = .inr y) : i_all a (c :: cs) k = i_all y.1 cs (k + 1) := by rw [i_all, h]
theorem i_all_at : ∀ (cs : List Cmd) (a b : oA) (k j : Nat), i_bef a cs k = some b → i_all a cs j = i_all b (cs.drop k) (j + k)
  | cs, a, b, 0, j, h => by
    rw [i_bef_0] at h
    cases (Option.some.inj h)
    rw [List.drop_zero, Nat.add_zero]
  | [], a, b, k + 1, j, h => absurd (show (none : Option oA) = some b from h) (by simp)
  | c :: cs, a, b, k + 1, j, h => by
    cases hc : i_cmd a c with
    | inl x => rw [i_bef_r hc] at h; exact absurd h (by simp)
    | inr y =>
      rw [i_bef_c hc] at h
      rw [i_all_c hc, i_all_at cs y.1 b k (j + 1) h, show j + 1 + k = j + (k + 1) by omega]
      rfl
theorem i_bef_s : ∀ (cs : List Cmd) (a b : oA) (k : Nat) (c : Cmd) (y : oA × Int32), i_bef a cs k = some b → cs[k]? = some c → i_cmd b c = .inr y → i_bef a cs (k + 1) = some y.1
  | [], a, b, k, c, y, _, h2, _ => absurd h2 (by simp)
  | d :: cs, a, b, 0, c, y, h, h2, h3 => by
    rw [i_bef_0] at h
    cases (Option.some.inj h)
    cases (Option.some.inj (h2 : some d = some c))
    rw [i_bef_c h3, i_bef_0]
  | d :: cs, a, b, k + 1, c, y, h, h2, h3 => by
    cases hc : i_cmd a d with
    | inl x => rw [i_bef_r hc] at h; exact absurd h (by simp)
    | inr z => rw [i_bef_c hc] at h ⊢; exact i_bef_s cs z.1 b k c y h h2 h3
theorem i_all_ref {cs : List Cmd} {a b : oA} {k : Nat} {c : Cmd} {x : Int32 × Int32} (h : i_bef a cs k = some b) (h2 : cs[k]? = some c) (h3 : i_cmd b c = .inl x) : i_all a cs 0 = .inl (k, x.1, x.2) := by
  rw [i_all_at cs a b k 0 h]
  have hk : k < cs.length := (List.getElem?_eq_some_iff.mp h2).1
  rw [List.drop_eq_getElem_cons hk]
  have e : cs[k] = c := (List.getElem?_eq_some_iff.mp h2).2
  rw [e]
  rw [i_all_r h3, Nat.zero_add]
theorem i_all_done {cs : List Cmd} {a b : oA} (h : i_bef a cs cs.length = some b) : i_all a cs 0 = .inr b := by
  rw [i_all_at cs a b _ 0 h, List.drop_length]
  rfl
def okY (a : oA) : Prop := ∀ k, k ≤ o_people a → okI (o_yr a k).1 ∧ o_people (o_yr a k).1 = o_people a
/-- all is well along the commands -/
def okC (a : oA) (cs : List Cmd) : Prop := ∀ k b, i_bef a cs k = some b → okI b ∧ okY b
/-- a text was read -/
def m_txt (σ ρ : MS) : Prop := (∀ k, k ≠ 11 → k ≠ 18 → k ≠ 19 → k ≠ 20 → k ≠ 21 → ρ.1 k = σ.1 k) ∧ ρ.1 11 = 0 ∧ ∀ k, k ≠ 22 → k ≠ 23 → ρ.2 k = σ.2 k
/-- a command was refused: all goes back -/
def m_bh (ρ : MS) (x : Nat × Int32 × Int32) (σ' : MS) (r : Int32) : Prop := r = 0 ∧ σ'.1 6 = 9 ∧ σ'.1 7 = nI x.1 ∧ σ'.1 8 = x.2.1 ∧ ¬ x.2.1 = 0 ∧ σ'.1 9 = x.2.2 ∧ σ'.1 15 = 2 ∧ (∀ k, k ≠ 6 → k ≠ 7 → k ≠ 8 → k ≠ 9 → k ≠ 15 → k ≠ 16 → k ≠ 17 → σ'.1 k = ρ.1 k) ∧ (∀ j, j < 137 → σ'.2 0 j = ρ.2 0 j) ∧ ∀ k, k ≠ 0 → k ≠ 1 → σ'.2 k = ρ.2 k
def m_endb (σ : MS) (k : Nat) : MS := mo_cp (mo_st (mo_st (mo_st (mo_st (mo_st σ 6 9) 7 (nI k)) 8 (σ.1 16)) 9 (σ.1 17)) 15 2) 1 0 0 0
theorem m_bh_of {ρ σ2 : MS} {b : oA} {k : Nat} {x : Int32 × Int32} (h : m_ref (mo_na (m_beg ρ) b) σ2 x.1 x.2) : m_bh ρ (k, x.1, x.2) (m_endb σ2 k) 0 := by
  obtain ⟨h1, h2, h3, h4, h5⟩ := h
  refine ⟨rfl, ?_, ?_, ?_, h2, ?_, ?_, fun k k1 k2 k3 k4 k5 k6 k7 => ?_, fun j hj => ?_, fun k k1 k2 => ?_⟩
  · simp [m_endb, mo_cp, mo_st, upd]
  · simp [m_endb, mo_cp, mo_st, upd]
  · simp [m_endb, mo_cp, mo_st, upd, h1]
  · simp [m_endb, mo_cp, mo_st, upd, h3]
  · simp [m_endb, mo_cp, mo_st, upd]
  · have e := h4 k k6 k7
    simp [mo_na, m_beg, mo_cp, mo_st, upd, k5, k6] at e
    simp [m_endb, mo_cp, mo_st, upd, k1, k2, k3, k4, k5, e]
  · show va_up σ2.2 0 (va_cpy (σ2.2 1) (σ2.2 0) 0 0 137) 0 j = ρ.2 0 j
    rw [va_up_self, h5 1 (by decide), mo_na_ne (by decide)]
    show va_cpy (va_up ρ.2 1 (va_cpy (ρ.2 0) (ρ.2 1) 0 0 137) 1) _ 0 0 137 j = ρ.2 0 j
    rw [va_up_self, pk_cpy_in (Nat.zero_le _) (by omega), pk_cpy_in (Nat.zero_le _) (by omega)]
    exact congrArg (ρ.2 0) (by omega)
  · unfold m_endb
    rw [mo_cp_ne k1]
    show σ2.2 k = ρ.2 k
    rw [h5 k k1, mo_na_ne k1, m_beg_ne k2]
/-- what 'run' does -/
def m_run (σ σ' : MS) (r : Int32) : Prop := ∃ ρ, m_txt σ ρ ∧
  if (t_all (σ.2 10) (o_n (σ.1 11))).1.2 = -1 then (match i_all (σ.2 0) (t_all (σ.2 10) (o_n (σ.1 11))).2 0 with
    | .inl x => m_bh ρ x σ' r
    | .inr a => m_pub ρ (.inr (a, nI (t_all (σ.2 10) (o_n (σ.1 11))).2.length)) σ' r)
  else r = 0 ∧ σ' = mo_st (mo_st ρ 12 (t_all (σ.2 10) (o_n (σ.1 11))).1.2) 15 1
theorem m_txt_of {σ τ : MS} {v : Int32} {cs : List Cmd} {s : TS} (hr : m_rds (mo_st (mo_st σ 18 v) 11 0) cs τ) : m_txt σ (m_ts τ s) := by
  refine ⟨fun k k1 k2 k3 k4 k5 => ?_, ?_, fun k k1 k2 => (hr.2.2.1 k k1 k2 : τ.2 k = σ.2 k)⟩
  · rw [m_ts_gk k3 k4, hr.1 k k5 k3 k4, mo_st_1n k1, mo_st_1n k2]
  · rw [m_ts_gk (by decide) (by decide), hr.1 11 (by decide) (by decide) (by decide), mo_st_1e]
theorem t_arg_f {T : Nat → Int32} {n f : Nat} {s : TS} : (t_arg T n s f).2.1 = f := by
  unfold t_arg
  by_cases h7 : f = 7
  · rw [if_pos h7]; exact h7.symm
  · rw [if_neg h7]
    by_cases h6 : f = 6
    · rw [if_pos h6]; exact h6.symm
    · rw [if_neg h6]
      by_cases h1 : f = 1
      · rw [if_pos h1]; exact h1.symm
      · rw [if_neg h1]
theorem t_cmd_8 {T : Nat → Int32} {n : Nat} {s : TS} : (t_cmd T n s).2.1 < 8 := by rw [t_cmd_eq, t_arg_f]; exact t_word_8
theorem t_rdl_n {T : Nat → Int32} {n : Nat} (hn : n ≤ 60) : ∀ (j : Nat) (p : TS × List Cmd), p.1.1 ≤ n → (p.1.2 = -1 → 5 * p.2.length ≤ p.1.1 + 1) → 5 * p.2.length ≤ n + 5 → (∀ (k : Nat) (c : Cmd), p.2[k]? = some c → c.1 < 8) → 5 * (t_rdl T n j p).2.length ≤ n + 5 ∧ ∀ (k : Nat) (c : Cmd), (t_rdl T n j p).2[k]? = some c → c.1 < 8
  | 0, _, _, _, h3, h4 => ⟨h3, h4⟩
  | j + 1, (s, cs), h1, h2, h3, h4 => by
    by_cases h : s.2 = -1 ∧ s.1 < n
    · have h9 := h2 h.1
      dsimp only at h9 h1
      have hs1 := t_tk_le (T := T) (n := n) (s := s) (lo := 59) (hi := 59) (by decide) h1
      by_cases h8 : (t_tk T n s 59 59).1.2 = -1
      · rw [t_rdl_b h h8]
        have ha := (t_tk_adv (by omega) h8).2
        have e1 := t_cmd_le (T := T) hs1
        have e2 := t_cmd_adv (T := T) hn hs1
        have e3 : (t_cmd T n (t_tk T n s 59 59).1).2.1 < 8 := t_cmd_8
        rw [ha] at e2
        generalize t_cmd T n (t_tk T n s 59 59).1 = R at e1 e2 e3 ⊢
        refine t_rdl_n hn j (R.1, cs ++ [R.2]) e1 (fun z => ?_) ?_ (fun k c hk => ?_)
        · have := e2 z
          dsimp only
          rw [List.length_append]
          show 5 * (cs.length + 1) ≤ _
          omega
        · dsimp only
          rw [List.length_append]
          show 5 * (cs.length + 1) ≤ _
          omega
        · dsimp only at hk
          by_cases hk9 : k < cs.length
          · rw [List.getElem?_append_left hk9] at hk; exact h4 k c hk
          · by_cases hk2 : k = cs.length
            · subst hk2
              rw [List.getElem?_concat_length] at hk
              exact Option.some.inj hk ▸ e3
            · rw [List.getElem?_eq_none (by rw [List.length_append]; show cs.length + 1 ≤ k; omega)] at hk
              exact absurd hk (by simp)
      · rw [t_rdl_a h h8]
        generalize (t_tk T n s 59 59).1 = R at hs1 h8 ⊢
        exact t_rdl_n hn j (R, cs) hs1 (fun z => absurd z h8) h3 h4
    · rw [t_rdl_no h]
      exact ⟨h3, h4⟩
theorem t_all_n {T : Nat → Int32} {n : Nat} (hn : n ≤ 60) : (t_all T n).2.length ≤ 13 ∧ ∀ (k : Nat) (c : Cmd), (t_all T n).2[k]? = some c → c.1 < 8 := by
  rw [← t_all_eq]
  have e1 := t_cmd_le (T := T) (n := n) (s := (0, -1)) (Nat.zero_le _)
  have e2 := t_cmd_adv (T := T) (n := n) (s := (0, -1)) hn (Nat.zero_le _)
  have e3 : (t_cmd T n (0, -1)).2.1 < 8 := t_cmd_8
  generalize t_cmd T n (0, -1) = R at e1 e2 e3 ⊢
  have h := t_rdl_n (T := T) hn (n + 1) (R.1, [R.2]) e1 (fun z => by
    have := e2 z
    show 5 * 1 ≤ _
    dsimp only at this ⊢
    omega) (by show 5 * 1 ≤ _; omega) (fun k c hk => by
    cases k with
    | zero => exact Option.some.inj hk ▸ e3
    | succ k => exact absurd hk (by simp))
  exact ⟨by have := h.1; omega, h.2⟩
theorem m_na_1 (σ : MS) (a : oA) (k : Nat) : (mo_na σ a).1 k = σ.1 k := rfl
theorem m_beg_1 {σ : MS} {k : Nat} (h1 : k ≠ 15) (h2 : k ≠ 16) : (m_beg σ).1 k = σ.1 k := by
  show upd (upd σ.1 16 0) 15 0 k = σ.1 k
  rw [upd_ne h1, upd_ne h2]
theorem m_has_na {ρ : MS} {b : oA} {k : Nat} {c : Cmd} (h : m_has ρ k c) : m_has (mo_na (m_beg ρ) b) k c := by
  unfold m_has at h ⊢
  rw [mo_na_ne (n := 22) (by decide), mo_na_ne (n := 23) (by decide), m_beg_ne (n := 22) (by decide), m_beg_ne (n := 23) (by decide)]
  exact h
