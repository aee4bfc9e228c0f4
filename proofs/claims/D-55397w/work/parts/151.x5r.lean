set_option maxRecDepth 100000
set_option maxHeartbeats 2000000 in
theorem met_X5_run (l : Launch) (G : hG) {h : hp} {o : Nat} {ma : Nat → Nat} {σ : MS} {n9 : Nat} (hM : isMod G h o ma σ)  (hC : hv_C G) (hn9 : σ.1 11 = nI n9) (hn6 : n9 ≤ 60) (h5 : σ.1 5 = nI (o_n (σ.1 5)) ∧ o_n (σ.1 5) ≤ 8) (hgood : okC (σ.2 0) (t_all (σ.2 10) n9).2) : hv_Mi l G yX5_run (ws_ yX5_run cX5_run 3 (Option.some Jvm.ClassFile.FieldType.int)) ({ frames := 7, cells := 0, slots := 0, locals := 165 } : Room) [.ref o] h (fun r hh => ∃ σ2, (m_run σ σ2 r) ∧ isMod G hh o ma σ2 ∧ mo_fr o ma h hh) := by
  refine hv_bi .int (Or.inl rfl) (own := RX5) (by decide +kernel) rfl (Nat.le_of_ble_eq_true rfl) (fun p e s m a below meth c ls Q hx hb hml hown hts hnm hret hw hl => ?_)
  have hl : lv_has ls 3 [(0, .ref o)] := hl
  have hF : mo_fr o ma h h := mo_fr.rf
  refine lv_aload_n hx hb dX5_run_0 rfl (lv_at hl 0 rfl) ?_
  refine lv_aload_n hx hb dX5_run_1 rfl (lv_at hl 0 rfl) ?_
  refine mo_get hx hb hts hown hw hM 11 (by decide) q2565 rfl (v := .int (σ.1 11)) rfl dX5_run_2 ?_
  refine lv_tope (y := nI n9) (hn9) ?_
  refine mo_put hx hb hts hown hw hM hF 18 (by decide) rfl q2572 rfl rfl rfl rfl dX5_run_5 (fun hh H locs hM hF hw => ?_)
  refine lv_aload_n hx hb dX5_run_8 rfl (lv_at hl 0 rfl) ?_
  refine lv_iconst (v := 0) hx hb dX5_run_9 (by decide) ?_
  refine mo_put hx hb hts hown hw hM hF 11 (by decide) rfl q2565 rfl rfl rfl rfl dX5_run_10 (fun hh H locs hM hF hw => ?_)
  refine lv_aload_n hx hb dX5_run_13 rfl (lv_at hl 0 rfl) ?_
  refine hv_callv (va_runV (As := []) (rest := []) ⟨hx, hb, hml, hown, hts⟩ (met_X5_readsAll l G hM hC ((mo_st_1n (by decide)).trans mo_st_1e) hn6) (cwV 0 hts (lw_V q2946 q2948 qs83 q106 q2949) rfl rfl rfl (by decide +kernel) ⟨Nat.le_of_ble_eq_true rfl, Nat.le_of_ble_eq_true rfl⟩) (hv_preV hw pk_X5 hM.1) rfl rfl hl.1 rfl (lv_room (Nat.le_of_ble_eq_true rfl)) dX5_run_14 ⟨Nat.le_of_ble_eq_true rfl, Nat.le_of_ble_eq_true rfl⟩) hw (fun hh H locs hp hw => ?_)
  obtain ⟨σ_9, ⟨τ, eσ, hr⟩, hM, hF9⟩ := hp
  have hF := hF.tr hF9
  subst eσ
  have hM : isMod G hh o ma (m_ts τ (t_all (σ.2 10) n9).1) := hM
  have hr : m_rds (mo_st (mo_st σ 18 (nI n9)) 11 0) (t_all (σ.2 10) n9).2 τ := hr
  have htx : m_txt σ (m_ts τ (t_all (σ.2 10) n9).1) := m_txt_of hr
  have hcs := t_all_n (T := σ.2 10) hn6
  generalize hAL : t_all (σ.2 10) n9 = R at hM hr htx hcs hgood
  obtain ⟨s8, cs⟩ := R
  have hcs : cs.length ≤ 13 ∧ ∀ (k : Nat) (c : Cmd), cs[k]? = some c → c.1 < 8 := hcs
  have hgood : okC (σ.2 0) cs := hgood
  have hc13 := hcs.1
  have hM : isMod G hh o ma (m_ts τ s8) := hM
  have hr : m_rds (mo_st (mo_st σ 18 (nI n9)) 11 0) cs τ := hr
  refine lv_aload_n hx hb dX5_run_17 rfl (lv_at hl 0 rfl) ?_
  refine mo_get hx hb hts hown hw hM 20 (by decide) q2574 rfl (v := .int ((m_ts τ s8).1 20)) rfl dX5_run_18 ?_
  refine lv_tope (y := s8.2) (m_ts_g20) ?_
  refine lv_iconst (v := (-1)) hx hb dX5_run_21 (by decide) ?_
  refine lv_icmp_eq (tgt := 40) hx hb dX5_run_22 (by decide) (fun c22 => ?_) (fun c22 => ?_)
  · skip
    have c22 : s8.2 = -1 := c22
    obtain ⟨ρ, hρ⟩ : ∃ ρ, ρ = m_ts τ s8 := ⟨_, rfl⟩
    rw [← hρ] at hM htx
    refine lv_aload_n hx hb dX5_run_40 rfl (lv_at hl 0 rfl) ?_
    refine mo_callv (va_runV (As := []) (rest := []) ⟨hx, hb, hml, hown, hts⟩ (met_X5_begins l G hM  ) (cwV 0 hts (lw_V q2654 q2656 qs45 q106 q2657) rfl rfl rfl (by decide +kernel) ⟨Nat.le_of_ble_eq_true rfl, Nat.le_of_ble_eq_true rfl⟩) (hv_preV hw pk_X5 hM.1) rfl rfl hl.1 rfl (lv_room (Nat.le_of_ble_eq_true rfl)) dX5_run_41 ⟨Nat.le_of_ble_eq_true rfl, Nat.le_of_ble_eq_true rfl⟩) hw hF (fun hh H locs hM hF hw => ?_)
    have hM : isMod G hh o ma (m_beg ρ) := hM
    have hN0 : ρ.2 0 = σ.2 0 := htx.2.2 0 (by decide) (by decide)
    have hM : isMod G hh o ma (mo_na (m_beg ρ) (σ.2 0)) := by rw [← hN0, show ρ.2 0 = (m_beg ρ).2 0 from (m_beg_ne (by decide)).symm, mo_na_self]; exact hM
    refine lv_iconst (v := 0) hx hb dX5_run_44 (by decide) ?_
    refine lv_istore_n (lv' := [(1, .int 0), (0, .ref o)]) hx hb dX5_run_45 rfl hl (by decide) rfl (fun ls hl => ?_)
    have LP46 : ∀ (n46 : Nat) (k : Nat) (b9 : oA) (hh : hp) (H : Heap) (locs : List Loc) (ls : Array Slot), cs.length - k < n46 → k ≤ cs.length → i_bef (σ.2 0) cs k = some b9 → isMod G hh o ma (mo_na (m_beg ρ) b9) → mo_fr o ma h hh → hv_W G s hh H locs → lv_has ls 3 [(0, .ref o), (1, .int (nI k))] → W p l e ({ frames := 7, cells := 0, slots := 0, locals := 165 } : Room) s m a below meth c H locs 0 0 Q (F0 m 46 ls []) := by
      intro n46
      induction n46 with
      | zero => exact fun k b9 hh H locs ls hmu46 => absurd hmu46 (Nat.not_lt_zero _)
      | succ n46 ih46 =>
        intro k b9 hh H locs ls hmu46 hkk hb9 hM hF hw hl
        refine lv_iload_n hx hb dX5_run_46 rfl (lv_at hl 1 rfl) ?_
        refine lv_aload_n hx hb dX5_run_47 rfl (lv_at hl 0 rfl) ?_
        refine mo_get hx hb hts hown hw hM 21 (by decide) q2575 rfl (v := .int ((mo_na (m_beg ρ) b9).1 21)) rfl dX5_run_48 ?_
        refine lv_tope (y := nI cs.length) (((m_na_1 _ _ _).trans ((m_beg_1 (by decide) (by decide)).trans (by rw [hρ]; exact (m_ts_gk (by decide) (by decide)).trans hr.2.1)))) ?_
        refine lv_icmp_ge (tgt := 120) hx hb dX5_run_51 (by decide) (fun c51 => ?_) (fun c51 => ?_)
        · skip
          have hkl : cs.length ≤ k := cmp_le c51 rfl rfl (by omega) (by omega)
          obtain rfl : k = cs.length := by omega
          refine lv_aload_n hx hb dX5_run_120 rfl (lv_at hl 0 rfl) ?_
          refine lv_aload_n hx hb dX5_run_121 rfl (lv_at hl 0 rfl) ?_
          refine mo_get hx hb hts hown hw hM 21 (by decide) q2575 rfl (v := .int ((mo_na (m_beg ρ) b9).1 21)) rfl dX5_run_122 ?_
          refine lv_tope (y := nI cs.length) (((m_na_1 _ _ _).trans ((m_beg_1 (by decide) (by decide)).trans (by rw [hρ]; exact (m_ts_gk (by decide) (by decide)).trans hr.2.1)))) ?_
          have h5ρ : ρ.1 5 = nI (o_n (ρ.1 5)) ∧ o_n (ρ.1 5) ≤ 8 := by rw [htx.1 5 (by decide) (by decide) (by decide) (by decide) (by decide)]; exact h5
          refine mo_calli (va_runV (As := [.int (nI cs.length)]) (rest := []) ⟨hx, hb, hml, hown, hts⟩ (met_X5_ends_ok l G hM (nI cs.length) rfl h5ρ) (cwV 1 hts (lw_V q2677 q2679 qs50 q106 q2680) rfl rfl rfl (by decide +kernel) ⟨Nat.le_of_ble_eq_true rfl, Nat.le_of_ble_eq_true rfl⟩) (hv_preV hw pk_X5 hM.1) rfl rfl hl.1 rfl (lv_room (Nat.le_of_ble_eq_true rfl)) dX5_run_125 ⟨Nat.le_of_ble_eq_true rfl, Nat.le_of_ble_eq_true rfl⟩) hw hF (fun hh H locs hM hF hw => ?_)
          exact hret rfl hw ⟨_, ⟨ρ, htx, by rw [hn9, o_n_nI (show n9 < 2 ^ 31 by omega), hAL]; rw [if_pos c22, i_all_done hb9]; exact pub_ok h5ρ⟩, hM, hF⟩ (Nat.le_of_ble_eq_true rfl) (Nat.le_of_ble_eq_true rfl) dX5_run_128
        · skip
          have hkl : k < cs.length := cmp_nle c51 rfl rfl (by omega) (by omega)
          obtain ⟨c9, hc9⟩ : ∃ c9, cs[k]? = some c9 := ⟨_, List.getElem?_eq_getElem hkl⟩
          have hf8 : c9.1 < 8 := hcs.2 k c9 hc9
          have hok := hgood k b9 hb9
          refine lv_aload_n hx hb dX5_run_54 rfl (lv_at hl 0 rfl) ?_
          refine lv_iload_n hx hb dX5_run_55 rfl (lv_at hl 1 rfl) ?_
          have hhc : m_has (mo_na (m_beg ρ) b9) k c9 := m_has_na (by rw [hρ]; exact hr.2.2.2 k c9 hc9)
          refine hv_calli (va_runV (As := [.int (nI k)]) (rest := []) ⟨hx, hb, hml, hown, hts⟩ (met_X5_does l G hM k c9.1 c9.2.1 c9.2.2.1 c9.2.2.2.1 c9.2.2.2.2 hhc (by omega) hf8 (by rw [mo_na_2]; exact hok.1) rfl (by rw [mo_na_2]; exact hok.2)) (cwV 1 hts (lw_V q2975 q2977 qs89 q106 q2978) rfl rfl rfl (by decide +kernel) ⟨Nat.le_of_ble_eq_true rfl, Nat.le_of_ble_eq_true rfl⟩) (hv_preV hw pk_X5 hM.1) rfl rfl hl.1 rfl (lv_room (Nat.le_of_ble_eq_true rfl)) dX5_run_56 ⟨Nat.le_of_ble_eq_true rfl, Nat.le_of_ble_eq_true rfl⟩) hw (fun r9 hh H locs hp hw => ?_)
          obtain ⟨σ_8, hI, hM, hF9⟩ := hp
          have hF := hF.tr hF9
          have hI : m_inn (mo_na (m_beg ρ) b9) (i_cmd b9 c9) σ_8 r9 := by rw [mo_na_2] at hI; exact hI
          cases hrs : i_cmd b9 c9 with
          | inl x9 =>
            rw [hrs] at hI
            have hI : m_ref (mo_na (m_beg ρ) b9) σ_8 x9.1 x9.2 := hI
            refine lv_istore_n (lv' := [(2, .int r9), (0, .ref o), (1, .int (nI k))]) hx hb dX5_run_59 rfl hl (by decide) rfl (fun ls hl => ?_)
            refine lv_aload_n hx hb dX5_run_60 rfl (lv_at hl 1 rfl) ?_
            refine mo_get hx hb hts hown hw hM 16 (by decide) q2570 rfl (v := .int (σ_8.1 16)) rfl dX5_run_61 ?_
            refine lv_if_eq (tgt := 114) hx hb dX5_run_64 (by decide) (fun c64 => absurd c64 (by rw [hI.1]; exact hI.2.1)) (fun c64 => ?_)
            refine lv_aload_n hx hb dX5_run_67 rfl (lv_at hl 1 rfl) ?_
            refine lv_bipush (v := 9) hx hb dX5_run_68 (by decide) ?_
            refine mo_put hx hb hts hown hw hM hF 6 (by decide) rfl q2560 rfl rfl rfl rfl dX5_run_70 (fun hh H locs hM hF hw => ?_)
            refine lv_aload_n hx hb dX5_run_73 rfl (lv_at hl 1 rfl) ?_
            refine lv_iload_n hx hb dX5_run_74 rfl (lv_at hl 2 rfl) ?_
            refine mo_put hx hb hts hown hw hM hF 7 (by decide) rfl q2561 rfl rfl rfl rfl dX5_run_75 (fun hh H locs hM hF hw => ?_)
            refine lv_aload_n hx hb dX5_run_78 rfl (lv_at hl 1 rfl) ?_
            refine lv_aload_n hx hb dX5_run_79 rfl (lv_at hl 1 rfl) ?_
            refine mo_get hx hb hts hown hw hM 16 (by decide) q2570 rfl (v := .int (σ_8.1 16)) rfl dX5_run_80 ?_
            refine mo_put hx hb hts hown hw hM hF 8 (by decide) rfl q2562 rfl rfl rfl rfl dX5_run_83 (fun hh H locs hM hF hw => ?_)
            refine lv_aload_n hx hb dX5_run_86 rfl (lv_at hl 1 rfl) ?_
            refine lv_aload_n hx hb dX5_run_87 rfl (lv_at hl 1 rfl) ?_
            refine mo_get hx hb hts hown hw hM 17 (by decide) q2571 rfl (v := .int (σ_8.1 17)) rfl dX5_run_88 ?_
            refine mo_put hx hb hts hown hw hM hF 9 (by decide) rfl q2563 rfl rfl rfl rfl dX5_run_91 (fun hh H locs hM hF hw => ?_)
            refine lv_aload_n hx hb dX5_run_94 rfl (lv_at hl 1 rfl) ?_
            refine lv_iconst (v := 2) hx hb dX5_run_95 (by decide) ?_
            refine mo_put hx hb hts hown hw hM hF 15 (by decide) rfl q2569 rfl rfl rfl rfl dX5_run_96 (fun hh H locs hM hF hw => ?_)
            refine lv_aload_n hx hb dX5_run_99 rfl (lv_at hl 1 rfl) ?_
            refine mo_get hx hb hts hown hw hM 1 (by decide) q2555 rfl (v := .ref (ma 1)) rfl dX5_run_100 ?_
            refine lv_iconst (v := 0) hx hb dX5_run_103 (by decide) ?_
            refine lv_aload_n hx hb dX5_run_104 rfl (lv_at hl 1 rfl) ?_
            refine mo_get hx hb hts hown hw hM 0 (by decide) q2554 rfl (v := .ref (ma 0)) rfl dX5_run_105 ?_
            refine lv_iconst (v := 0) hx hb dX5_run_108 (by decide) ?_
            refine mo_callv (va_runS (As := [.ref (ma 1), .int 0, .ref (ma 0), .int 0]) (rest := []) ⟨hx, hb, hml, hown, hts⟩ (met_X5_copies l G hM 1 0 0 0 rfl rfl (by decide) (show 0 + 137 ≤ 137 by omega) (show 0 + 137 ≤ 137 by omega) (by decide) (by decide)) (va_cwS 4 hts (lw_S q2639 q2640 q106 q2641) rfl rfl rfl (by decide +kernel) ⟨Nat.le_of_ble_eq_true rfl, Nat.le_of_ble_eq_true rfl⟩) (hv_preS hw) rfl rfl hl.1 rfl (lv_room (Nat.le_of_ble_eq_true rfl)) dX5_run_109 ⟨Nat.le_of_ble_eq_true rfl, Nat.le_of_ble_eq_true rfl⟩) hw hF (fun hh H locs hM hF hw => ?_)
            refine lv_iconst (v := 0) hx hb dX5_run_112 (by decide) ?_
            exact hret rfl hw ⟨m_endb σ_8 k, ⟨ρ, htx, by rw [hn9, o_n_nI (show n9 < 2 ^ 31 by omega), hAL]; rw [if_pos c22, i_all_ref hb9 hc9 hrs]; exact m_bh_of hI⟩, hM, hF⟩ (Nat.le_of_ble_eq_true rfl) (Nat.le_of_ble_eq_true rfl) dX5_run_113
          | inr y9 =>
            rw [hrs] at hI
            obtain ⟨e9_, e8_⟩ := hI
            subst e9_; subst e8_
            rw [mo_na_na] at hM
            refine lv_istore_n (lv' := [(2, .int y9.2), (0, .ref o), (1, .int (nI k))]) hx hb dX5_run_59 rfl hl (by decide) rfl (fun ls hl => ?_)
            refine lv_aload_n hx hb dX5_run_60 rfl (lv_at hl 1 rfl) ?_
            refine mo_get hx hb hts hown hw hM 16 (by decide) q2570 rfl (v := .int ((mo_na (m_beg ρ) y9.1).1 16)) rfl dX5_run_61 ?_
            refine lv_tope (y := 0) (rfl) ?_
            refine lv_if_eq (tgt := 114) hx hb dX5_run_64 (by decide) (fun _ => ?_) (fun c => absurd c (by decide))
            refine lv_iinc (v := nI (k + 1)) (lv' := [(1, .int (nI (k + 1))), (2, .int y9.2), (0, .ref o)]) hx hb dX5_run_114 hl (k := 2) rfl (by simp only [nI, Int32.ofNat_add] <;> rfl) (by decide) rfl (fun ls hl => ?_)
            refine lv_goto (tgt := 46) hx hb dX5_run_117 (by decide) ?_
            exact ih46 (k + 1) y9.1 _ _ _ _ (by omega) (by omega) (i_bef_s _ _ _ _ _ _ hb9 hc9 hrs) hM hF hw (lv_sub hl [2, 0] rfl)
    exact LP46 _ 0 (σ.2 0) _ _ _ _ (Nat.lt_succ_self _) (Nat.zero_le _) (i_bef_0) hM hF hw (lv_sub hl [1, 0] rfl)
  · skip
    refine lv_aload_n hx hb dX5_run_25 rfl (lv_at hl 0 rfl) ?_
    refine lv_aload_n hx hb dX5_run_26 rfl (lv_at hl 0 rfl) ?_
    refine mo_get hx hb hts hown hw hM 20 (by decide) q2574 rfl (v := .int ((m_ts τ s8).1 20)) rfl dX5_run_27 ?_
    refine lv_tope (y := s8.2) (m_ts_g20) ?_
    refine mo_put hx hb hts hown hw hM hF 12 (by decide) rfl q2566 rfl rfl rfl rfl dX5_run_30 (fun hh H locs hM hF hw => ?_)
    refine lv_aload_n hx hb dX5_run_33 rfl (lv_at hl 0 rfl) ?_
    refine lv_iconst (v := 1) hx hb dX5_run_34 (by decide) ?_
    refine mo_put hx hb hts hown hw hM hF 15 (by decide) rfl q2569 rfl rfl rfl rfl dX5_run_35 (fun hh H locs hM hF hw => ?_)
    refine lv_iconst (v := 0) hx hb dX5_run_38 (by decide) ?_
    exact hret rfl hw ⟨_, ⟨_, htx, by rw [hn9, o_n_nI (show n9 < 2 ^ 31 by omega), hAL]; rw [if_neg c22]; exact ⟨rfl, rfl⟩⟩, hM, hF⟩ (Nat.le_of_ble_eq_true rfl) (Nat.le_of_ble_eq_true rfl) dX5_run_39
