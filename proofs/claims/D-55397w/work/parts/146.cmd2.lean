/-! ===== a command, as the model keeps it ===== -/
theorem t_word_8 {T : Nat → Int32} {n : Nat} {s : TS} : (t_word T n s).2 < 8 := by
  unfold t_word
  by_cases h : (t_wd T n s.1 8).2 = -1
  · rw [if_pos h]; exact (by decide : 7 < 8)
  · rw [if_neg h]
    rcases t_wd_ix (T := T) (n := n) (a := s.1) 8 with h9 | ⟨f, f1, f2, f3⟩
    · exact absurd h9 h
    · rw [f2, o_n_nI (by omega)]; exact f1
theorem t_arg_7 {T : Nat → Int32} {n : Nat} {s : TS} : t_arg T n s 7 = (s, (7, 0, 0, 0, 0)) := rfl
theorem t_arg_6 {T : Nat → Int32} {n : Nat} {s : TS} : t_arg T n s 6 = ((t_n1 T n s 6).1, (6, (t_n1 T n s 6).2, 0, 0, 0)) := rfl
theorem t_arg_1 {T : Nat → Int32} {n : Nat} {s : TS} : t_arg T n s 1 = ((t_n4 T n s 1).1, (1, (t_n1 T n s 1).2, (t_n2 T n s 1).2, (t_n3 T n s 1).2, (t_n4 T n s 1).2)) := rfl
theorem t_arg_o {T : Nat → Int32} {n f : Nat} {s : TS} (h7 : ¬ f = 7) (h6 : ¬ f = 6) (h1 : ¬ f = 1) : t_arg T n s f = ((t_n2 T n s f).1, (f, (t_n1 T n s f).2, (t_n2 T n s f).2, 0, 0)) := by
  unfold t_arg
  rw [if_neg h7, if_neg h6, if_neg h1]
theorem m_cmd_mk {σ τ : MS} {t : Nat} {c : Cmd} {N : Nat → Int32} (e1 : τ.1 = upd σ.1 21 (nI (t + 1))) (e22 : τ.2 22 = upd (σ.2 22) t (nI c.1)) (e23 : τ.2 23 = N) (eo : ∀ k, k ≠ 22 → k ≠ 23 → τ.2 k = σ.2 k) (hN : ∀ j, j < 4 * t → N j = σ.2 23 j) (h1 : c.1 < 7 → N (4 * t) = c.2.1) (h2 : c.1 < 6 → N (4 * t + 1) = c.2.2.1) (h3 : c.1 = 1 → N (4 * t + 2) = c.2.2.2.1 ∧ N (4 * t + 3) = c.2.2.2.2) : m_cmd σ t c τ := by
  refine ⟨fun k hk => by rw [e1]; exact upd_ne hk, by rw [e1]; simp [upd], eo, fun j hj => by rw [e22]; exact upd_ne hj, fun j hj => by rw [e23]; exact hN j hj, by rw [e22]; simp [upd], fun z => by rw [e23]; exact h1 z, fun z => by rw [e23]; exact h2 z, fun z => by rw [e23]; exact h3 z⟩
theorem t_pl_0 {T : Nat → Int32} {n : Nat} {s : TS} (h : ¬ s.2 = -1) : 0 = (t_pl T n s).2 := by unfold t_pl; rw [if_neg (fun z => h z.1)]
theorem t_pl_1 {T : Nat → Int32} {n : Nat} {s : TS} (h : s.2 = -1) : b01 (t_sg T n s.1 = 43) = (t_pl T n s).2 := by
  unfold t_pl b01
  by_cases h9 : t_sg T n s.1 = 43
  · rw [if_pos h9, if_pos ⟨h, h9⟩]
  · rw [if_neg h9, if_neg (fun z => h9 z.2)]
theorem t_pl_b {T : Nat → Int32} {n : Nat} {s : TS} : b01 (¬ (t_pl T n s).2 = 0) = (t_pl T n s).2 := by
  unfold t_pl b01
  by_cases h9 : s.2 = -1 ∧ t_sg T n s.1 = 43
  · rw [if_pos h9]; rfl
  · rw [if_neg h9]; rfl
theorem t_pl_at {T : Nat → Int32} {n : Nat} {s : TS} : nI s.1 + b01 (¬ (t_pl T n s).2 = 0) = nI (t_pl T n s).1.1 := by
  rw [t_pl_b]
  unfold t_pl
  by_cases h9 : s.2 = -1 ∧ t_sg T n s.1 = 43
  · rw [if_pos h9]; simp only [nI, Int32.ofNat_add]; rfl
  · rw [if_neg h9]; exact Int32.add_zero _
theorem t_pl_e {T : Nat → Int32} {n : Nat} {s : TS} : (t_pl T n s).1 = ((t_pl T n s).1.1, s.2) := by
  unfold t_pl
  by_cases h9 : s.2 = -1 ∧ t_sg T n s.1 = 43
  · rw [if_pos h9]
  · rw [if_neg h9]
theorem mo_sa_o {σ : MS} {i j k : Nat} {v : Int32} (h : k ≠ i) : (mo_sa σ i j v).2 k = σ.2 k := va_up_ne σ.2 (upd (σ.2 i) j v) h
theorem m_st2 {σ : MS} {i k : Nat} {v : Int32} : (mo_st σ i v).2 k = σ.2 k := rfl
theorem m_cmd_7 {σ : MS} {t : Nat} : m_cmd σ t (7, 0, 0, 0, 0) (mo_st (mo_sa σ 22 t 7) 21 (nI (t + 1))) :=
  m_cmd_mk (N := σ.2 23) rfl rfl rfl (fun k k1 k2 => by rw [m_st2, mo_sa_o k1]) (fun j hj => rfl) (fun z => absurd (show (7 : Nat) < 7 from z) (by decide)) (fun z => absurd (show (7 : Nat) < 6 from z) (by decide)) (fun z => absurd (show (7 : Nat) = 1 from z) (by decide))
theorem m_cmd_6 {σ : MS} {t : Nat} {v1 : Int32} : m_cmd σ t (6, v1, 0, 0, 0) (mo_st (mo_sa (mo_sa σ 22 t 6) 23 (4 * t) v1) 21 (nI (t + 1))) :=
  m_cmd_mk (N := upd (σ.2 23) (4 * t) v1) rfl rfl rfl (fun k k1 k2 => by rw [m_st2, mo_sa_o k2, mo_sa_o k1]) (fun j hj => upd_ne (by omega)) (fun _ => upd_eq) (fun z => absurd (show (6 : Nat) < 6 from z) (by decide)) (fun z => absurd (show (6 : Nat) = 1 from z) (by decide))
theorem m_cmd_o {σ : MS} {t f : Nat} {v1 v2 v3 v4 : Int32} (h1 : ¬ f = 1) : m_cmd σ t (f, v1, v2, v3, v4) (mo_st (mo_sa (mo_sa (mo_sa σ 22 t (nI f)) 23 (4 * t) v1) 23 (4 * t + 1) v2) 21 (nI (t + 1))) :=
  m_cmd_mk (N := upd (upd (σ.2 23) (4 * t) v1) (4 * t + 1) v2) rfl rfl rfl (fun k k1 k2 => by rw [m_st2, mo_sa_o k2, mo_sa_o k2, mo_sa_o k1]) (fun j hj => by rw [upd_ne (by omega), upd_ne (by omega)]) (fun _ => by rw [upd_ne (by omega)]; exact upd_eq) (fun _ => upd_eq) (fun z => absurd z h1)
theorem m_cmd_1 {σ : MS} {t : Nat} {v1 v2 v3 v4 : Int32} : m_cmd σ t (1, v1, v2, v3, v4) (mo_st (mo_sa (mo_sa (mo_sa (mo_sa (mo_sa σ 22 t 1) 23 (4 * t) v1) 23 (4 * t + 1) v2) 23 (4 * t + 2) v3) 23 (4 * t + 3) v4) 21 (nI (t + 1))) :=
  m_cmd_mk (N := upd (upd (upd (upd (σ.2 23) (4 * t) v1) (4 * t + 1) v2) (4 * t + 2) v3) (4 * t + 3) v4) rfl rfl rfl (fun k k1 k2 => by rw [m_st2, mo_sa_o k2, mo_sa_o k2, mo_sa_o k2, mo_sa_o k2, mo_sa_o k1]) (fun j hj => by rw [upd_ne (by omega), upd_ne (by omega), upd_ne (by omega), upd_ne (by omega)]) (fun _ => by rw [upd_ne (by omega), upd_ne (by omega), upd_ne (by omega)]; exact upd_eq) (fun _ => by rw [upd_ne (by omega), upd_ne (by omega)]; exact upd_eq) (fun _ => ⟨by rw [upd_ne (by omega)]; exact upd_eq, upd_eq⟩)
theorem m_cmd_fin {σ τ : MS} {t n : Nat} {T : Nat → Int32} {s fin : TS} {c : Cmd} (hcm : t_cmd T n s = (fin, c)) (hmc : m_cmd σ t c τ) : ∃ τ2, m_ts τ fin = m_ts τ2 (t_cmd T n s).1 ∧ m_cmd σ t (t_cmd T n s).2 τ2 := ⟨τ, by rw [hcm], by rw [hcm]; exact hmc⟩
theorem m_rds_0 {σ : MS} : m_rds σ [] (mo_st σ 21 0) := by
  refine ⟨fun k k1 _ _ => upd_ne k1, ?_, fun k _ _ => rfl, fun k c h => absurd h (by simp)⟩
  show upd σ.1 21 0 21 = nI 0
  rw [upd_eq]; rfl
theorem m_ts_00 {σ : MS} : mo_st (mo_st σ 19 0) 20 (-1) = m_ts σ (0, -1) := rfl
theorem t_rdl_a {T : Nat → Int32} {n j : Nat} {s : TS} {cs : List Cmd} (h : s.2 = -1 ∧ s.1 < n) (h2 : ¬ (t_tk T n s 59 59).1.2 = -1) : t_rdl T n (j + 1) (s, cs) = t_rdl T n j ((t_tk T n s 59 59).1, cs) := by
  unfold t_rdl
  rw [if_pos h, if_neg h2]
  cases j <;> rfl
theorem t_rdl_b {T : Nat → Int32} {n j : Nat} {s : TS} {cs : List Cmd} (h : s.2 = -1 ∧ s.1 < n) (h2 : (t_tk T n s 59 59).1.2 = -1) : t_rdl T n (j + 1) (s, cs) = t_rdl T n j ((t_cmd T n (t_tk T n s 59 59).1).1, cs ++ [(t_cmd T n (t_tk T n s 59 59).1).2]) := by
  rw [t_rdl]
  rw [if_pos h, if_pos h2]
theorem t_all_eq (T : Nat → Int32) (n : Nat) : t_rdl T n (n + 1) ((t_cmd T n (0, -1)).1, [(t_cmd T n (0, -1)).2]) = t_all T n := rfl
theorem m_rds_fin {σ τ : MS} {n : Nat} {T : Nat → Int32} {s : TS} {cs : List Cmd} (h : (s, cs) = t_all T n) (hr : m_rds σ cs τ) : ∃ τ2, m_ts τ s = m_ts τ2 (t_all T n).1 ∧ m_rds σ (t_all T n).2 τ2 := ⟨τ, by rw [← h], by rw [← h]; exact hr⟩
theorem mo_st_1e {σ : MS} {k : Nat} {v : Int32} : (mo_st σ k v).1 k = v := upd_eq
theorem mo_st_1n {σ : MS} {k j : Nat} {v : Int32} (h : j ≠ k) : (mo_st σ k v).1 j = σ.1 j := upd_ne h
