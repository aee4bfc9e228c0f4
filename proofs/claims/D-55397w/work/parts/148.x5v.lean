set_option maxRecDepth 100000
set_option maxHeartbeats 2000000 in
theorem met_X5_readsAll (l : Launch) (G : hG) {h : hp} {o : Nat} {ma : Nat → Nat} {σ : MS} {n9 : Nat} (hM : isMod G h o ma σ)  (hC : hv_C G) (hn9 : σ.1 18 = nI n9) (hn6 : n9 ≤ 60) : hv_Mv l G yX5_readsAll (ws_ yX5_readsAll cX5_readsAll 2 (Option.none : Option Jvm.ClassFile.FieldType)) ({ frames := 6, cells := 0, slots := 0, locals := 132 } : Room) [.ref o] h (fun hh => ∃ σ2, (∃ τ2, σ2 = m_ts τ2 (t_all (σ.2 10) n9).1 ∧ m_rds σ (t_all (σ.2 10) n9).2 τ2) ∧ isMod G hh o ma σ2 ∧ mo_fr o ma h hh) := by
  refine hv_bv (own := RX5) (by decide +kernel) rfl (Nat.le_of_ble_eq_true rfl) (fun p e s m a below meth c ls Q hx hb hml hown hts hnm hret hw hl => ?_)
  have hl : lv_has ls 2 [(0, .ref o)] := hl
  have hF : mo_fr o ma h h := mo_fr.rf
  refine lv_aload_n hx hb dX5_readsAll_0 rfl (lv_at hl 0 rfl) ?_
  refine lv_iconst (v := 0) hx hb dX5_readsAll_1 (by decide) ?_
  refine mo_put hx hb hts hown hw hM hF 19 (by decide) rfl q2573 rfl rfl rfl rfl dX5_readsAll_2 (fun hh H locs hM hF hw => ?_)
  refine lv_aload_n hx hb dX5_readsAll_5 rfl (lv_at hl 0 rfl) ?_
  refine lv_iconst (v := (-1)) hx hb dX5_readsAll_6 (by decide) ?_
  refine mo_put hx hb hts hown hw hM hF 20 (by decide) rfl q2574 rfl rfl rfl rfl dX5_readsAll_7 (fun hh H locs hM hF hw => ?_)
  refine lv_aload_n hx hb dX5_readsAll_10 rfl (lv_at hl 0 rfl) ?_
  refine lv_iconst (v := 0) hx hb dX5_readsAll_11 (by decide) ?_
  refine mo_put hx hb hts hown hw hM hF 21 (by decide) rfl q2575 rfl rfl rfl rfl dX5_readsAll_12 (fun hh H locs hM hF hw => ?_)
  have hM : isMod G hh o ma (m_ts (mo_st σ 21 0) (0, -1)) := by rw [m_ts_00, m_ts_k (by decide) (by decide)] at hM; exact hM
  refine lv_aload_n hx hb dX5_readsAll_15 rfl (lv_at hl 0 rfl) ?_
  refine hv_callv (va_runV (As := []) (rest := []) ⟨hx, hb, hml, hown, hts⟩ (met_X5_readsCommand l G hM hC rfl (mo_st_1e.trans nI_0.symm) (by decide : 0 < 16) ((mo_st_1n (by decide)).trans hn9) hn6 (Nat.zero_le _)) (cwV 0 hts (lw_V q2950 q2952 qs84 q106 q2953) rfl rfl rfl (by decide +kernel) ⟨Nat.le_of_ble_eq_true rfl, Nat.le_of_ble_eq_true rfl⟩) (hv_preV hw pk_X5 hM.1) rfl rfl hl.1 rfl (lv_room (Nat.le_of_ble_eq_true rfl)) dX5_readsAll_16 ⟨Nat.le_of_ble_eq_true rfl, Nat.le_of_ble_eq_true rfl⟩) hw (fun hh H locs hp hw => ?_)
  obtain ⟨σ_9, ⟨τ2, eσ, hmc⟩, hM, hF9⟩ := hp
  have hF := hF.tr hF9
  subst eσ
  have hM : isMod G hh o ma (m_ts τ2 (t_cmd (σ.2 10) n9 (0, -1)).1) := hM
  have hr := m_rds.nx (cs := []) m_rds_0 hmc
  have hs0 : (t_cmd (σ.2 10) n9 (0, -1)).1.1 ≤ n9 := t_cmd_le (Nat.zero_le _)
  have ha0 : (t_cmd (σ.2 10) n9 (0, -1)).1.2 = -1 → 0 + 4 ≤ (t_cmd (σ.2 10) n9 (0, -1)).1.1 := fun z => t_cmd_adv hn6 (Nat.zero_le _) z
  have LP19 : ∀ (n19 : Nat) (τ : MS) (s8 : TS) (cs : List Cmd) (j : Nat) (hh : hp) (H : Heap) (locs : List Loc) (ls : Array Slot), j < n19 → m_rds σ cs τ → s8.1 ≤ n9 → (s8.2 = -1 → n9 < s8.1 + j) → (s8.2 = -1 → 5 * cs.length ≤ s8.1 + 1) → t_rdl (σ.2 10) n9 j (s8, cs) = (t_all (σ.2 10) n9) → isMod G hh o ma (m_ts τ s8) → mo_fr o ma h hh → hv_W G s hh H locs → lv_has ls 2 [(0, .ref o)] → W p l e ({ frames := 6, cells := 0, slots := 0, locals := 132 } : Room) s m a below meth c H locs 0 0 Q (F0 m 19 ls []) := by
    intro n19
    induction n19 with
    | zero => exact fun τ s8 cs j hh H locs ls hmu19 => absurd hmu19 (Nat.not_lt_zero _)
    | succ n19 ih19 =>
      intro τ s8 cs j hh H locs ls hmu19 hr hs hj hkt hR hM hF hw hl
      have hn18 : τ.1 18 = nI n9 := (hr.1 18 (by decide) (by decide) (by decide)).trans hn9
      have hT : τ.2 10 = σ.2 10 := hr.2.2.1 10 (by decide) (by decide)
      refine lv_aload_n hx hb dX5_readsAll_19 rfl (lv_at hl 0 rfl) ?_
      refine mo_get hx hb hts hown hw hM 20 (by decide) q2574 rfl (v := .int ((m_ts τ s8).1 20)) rfl dX5_readsAll_20 ?_
      refine lv_tope (y := s8.2) (m_ts_g20) ?_
      refine lv_iconst (v := (-1)) hx hb dX5_readsAll_23 (by decide) ?_
      refine lv_icmp_ne (tgt := 62) hx hb dX5_readsAll_24 (by decide) (fun c24 => ?_) (fun c24 => ?_)
      · skip
        have hZ := t_rdl_no (T := (σ.2 10)) (n := n9) (j := j) (p := (s8, cs)) (fun z => c24 z.1)
        exact hret hw ⟨_, m_rds_fin (hZ.symm.trans hR) hr, hM, hF⟩ (Nat.le_of_ble_eq_true rfl) (Nat.le_of_ble_eq_true rfl) dX5_readsAll_62
      · skip
        refine lv_aload_n hx hb dX5_readsAll_27 rfl (lv_at hl 0 rfl) ?_
        refine mo_get hx hb hts hown hw hM 19 (by decide) q2573 rfl (v := .int ((m_ts τ s8).1 19)) rfl dX5_readsAll_28 ?_
        refine lv_tope (y := nI s8.1) (m_ts_g19) ?_
        refine lv_aload_n hx hb dX5_readsAll_31 rfl (lv_at hl 0 rfl) ?_
        refine mo_get hx hb hts hown hw hM 18 (by decide) q2572 rfl (v := .int ((m_ts τ s8).1 18)) rfl dX5_readsAll_32 ?_
        refine lv_tope (y := nI n9) ((m_ts_gk (by decide) (by decide)).trans hn18) ?_
        refine lv_icmp_ge (tgt := 62) hx hb dX5_readsAll_35 (by decide) (fun c35 => ?_) (fun c35 => ?_)
        · skip
          have hZ := t_rdl_no (T := (σ.2 10)) (n := n9) (j := j) (p := (s8, cs)) (fun z => absurd z.2 (Nat.not_lt.mpr (cmp_le c35 rfl rfl (by omega) (by omega))))
          exact hret hw ⟨_, m_rds_fin (hZ.symm.trans hR) hr, hM, hF⟩ (Nat.le_of_ble_eq_true rfl) (Nat.le_of_ble_eq_true rfl) dX5_readsAll_62
        · skip
          have hlt : s8.1 < n9 := cmp_nle c35 rfl rfl (by omega) (by omega)
          have hjc := hj c24
          have hkc := hkt c24
          obtain ⟨i, rfl⟩ : ∃ i, j = i + 1 := ⟨j - 1, by omega⟩
          refine lv_aload_n hx hb dX5_readsAll_38 rfl (lv_at hl 0 rfl) ?_
          refine lv_bipush (v := 59) hx hb dX5_readsAll_39 (by decide) ?_
          refine lv_bipush (v := 59) hx hb dX5_readsAll_41 (by decide) ?_
          have hstk : (t_tk (σ.2 10) n9 s8 59 59).1.1 ≤ n9 := t_tk_le (by decide) hs
          refine mo_calli (va_runV (As := [.int 59, .int 59]) (rest := []) ⟨hx, hb, hml, hown, hts⟩ (met_X5_takes l G hM 59 59 (by decide) hn18 hn6 hs) (cwV 2 hts (lw_V q2967 q2969 qs87 q106 q2970) rfl rfl rfl (by decide +kernel) ⟨Nat.le_of_ble_eq_true rfl, Nat.le_of_ble_eq_true rfl⟩) (hv_preV hw pk_X5 hM.1) rfl rfl hl.1 rfl (lv_room (Nat.le_of_ble_eq_true rfl)) dX5_readsAll_43 ⟨Nat.le_of_ble_eq_true rfl, Nat.le_of_ble_eq_true rfl⟩) hw hF (fun hh H locs hM hF hw => ?_)
          rw [hT] at hM
          refine lv_istore_n (lv' := [(1, .int ((t_tk (τ.2 10) n9 s8 59 59).2)), (0, .ref o)]) hx hb dX5_readsAll_46 rfl hl (by decide) rfl (fun ls hl => ?_)
          refine lv_aload_n hx hb dX5_readsAll_47 rfl (lv_at hl 1 rfl) ?_
          refine mo_get hx hb hts hown hw hM 20 (by decide) q2574 rfl (v := .int ((m_ts τ (t_tk (σ.2 10) n9 s8 59 59).1).1 20)) rfl dX5_readsAll_48 ?_
          refine lv_tope (y := ((t_tk (σ.2 10) n9 s8 59 59).1).2) (m_ts_g20) ?_
          refine lv_iconst (v := (-1)) hx hb dX5_readsAll_51 (by decide) ?_
          refine lv_icmp_ne (tgt := 59) hx hb dX5_readsAll_52 (by decide) (fun c52 => ?_) (fun c52 => ?_)
          · skip
            have hSt := t_rdl_a (T := (σ.2 10)) (j := i) (cs := cs) ⟨c24, hlt⟩ c52
            refine lv_goto (tgt := 19) hx hb dX5_readsAll_59 (by decide) ?_
            exact ih19 τ ((t_tk (σ.2 10) n9 s8 59 59).1) cs i _ _ _ _ (by omega) (hr) (hstk) (fun z => absurd z c52) (fun z => absurd z c52) (hSt.symm.trans hR) hM hF hw (lv_sub hl [1] rfl)
          · skip
            have hSt := t_rdl_b (T := (σ.2 10)) (j := i) (cs := cs) ⟨c24, hlt⟩ c52
            have had : (t_tk (σ.2 10) n9 s8 59 59).1.1 = s8.1 + 1 := (t_tk_adv (by omega) c52).2
            refine lv_aload_n hx hb dX5_readsAll_55 rfl (lv_at hl 1 rfl) ?_
            refine hv_callv (va_runV (As := []) (rest := []) ⟨hx, hb, hml, hown, hts⟩ (met_X5_readsCommand l G hM hC c52 hr.2.1 (by omega) hn18 hn6 hstk) (cwV 0 hts (lw_V q2950 q2952 qs84 q106 q2953) rfl rfl rfl (by decide +kernel) ⟨Nat.le_of_ble_eq_true rfl, Nat.le_of_ble_eq_true rfl⟩) (hv_preV hw pk_X5 hM.1) rfl rfl hl.1 rfl (lv_room (Nat.le_of_ble_eq_true rfl)) dX5_readsAll_56 ⟨Nat.le_of_ble_eq_true rfl, Nat.le_of_ble_eq_true rfl⟩) hw (fun hh H locs hp hw => ?_)
            obtain ⟨σ_9, ⟨τ2, eσ, hmc⟩, hM, hF9⟩ := hp
            have hF := hF.tr hF9
            subst eσ
            rw [hT] at hM hmc
            have hM : isMod G hh o ma (m_ts τ2 (t_cmd (σ.2 10) n9 (t_tk (σ.2 10) n9 s8 59 59).1).1) := hM
            have hr2 := hr.nx hmc
            have hs2 : (t_cmd (σ.2 10) n9 (t_tk (σ.2 10) n9 s8 59 59).1).1.1 ≤ n9 := t_cmd_le hstk
            have ha2 : (t_cmd (σ.2 10) n9 (t_tk (σ.2 10) n9 s8 59 59).1).1.2 = -1 → (t_tk (σ.2 10) n9 s8 59 59).1.1 + 4 ≤ (t_cmd (σ.2 10) n9 (t_tk (σ.2 10) n9 s8 59 59).1).1.1 := fun z => t_cmd_adv hn6 hstk z
            have hn18 : τ2.1 18 = nI n9 := (hr2.1 18 (by decide) (by decide) (by decide)).trans hn9
            refine lv_goto (tgt := 19) hx hb dX5_readsAll_59 (by decide) ?_
            exact ih19 τ2 ((t_cmd (σ.2 10) n9 (t_tk (σ.2 10) n9 s8 59 59).1).1) (cs ++ [(t_cmd (σ.2 10) n9 (t_tk (σ.2 10) n9 s8 59 59).1).2]) i _ _ _ _ (by omega) (hr2) (hs2) (fun z => by have z1 := ha2 z; rw [had] at z1; omega) (fun z => by have z1 := ha2 z; rw [had] at z1; rw [List.length_append]; show 5 * (cs.length + 1) ≤ _; omega) (hSt.symm.trans hR) hM hF hw (lv_sub hl [1] rfl)
  exact LP19 _ τ2 ((t_cmd (σ.2 10) n9 (0, -1)).1) ([] ++ [(t_cmd (σ.2 10) n9 (0, -1)).2]) (n9 + 1) _ _ _ _ (Nat.lt_succ_self _) (hr) (hs0) (fun z => by have := ha0 z; omega) (fun z => by have := ha0 z; show 5 * 1 ≤ _; omega) (t_all_eq _ _) hM hF hw (lv_sub hl [0] rfl)
