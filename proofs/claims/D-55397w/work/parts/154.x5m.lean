set_option maxRecDepth 100000
set_option maxHeartbeats 4000000 in
theorem met_X5_line (l : Launch) (G : hG) {h : hp} {o : Nat} {ma : Nat → Nat} {σ : MS} (hM : isMod G h o ma σ) (c9 : Int32) (hok : okI (σ.2 0)) (hL : okL (σ.2 0) (o_n c9)) : mo_Mi l G yX5_line (ws_ yX5_line cX5_line 5 (Option.some Jvm.ClassFile.FieldType.int)) ({ frames := 2, cells := 0, slots := 0, locals := 46 } : Room) [.ref o, .int c9] h o ma (if (0 ≤ c9 ∧ c9 ≤ σ.2 0 5 - 1) ∧ True then nI (w_line (σ.2 13) (σ.2 0) (o_n c9)).2 else 0) (if (0 ≤ c9 ∧ c9 ≤ σ.2 0 5 - 1) ∧ True then mo_st (mo_nl (mo_st σ 15 (m_gv (0 ≤ c9 ∧ c9 ≤ σ.2 0 5 - 1) 1 True 0)) (w_line (σ.2 13) (σ.2 0) (o_n c9)).1) 14 (nI (w_line (σ.2 13) (σ.2 0) (o_n c9)).2) else mo_st σ 15 (m_gv (0 ≤ c9 ∧ c9 ≤ σ.2 0 5 - 1) 1 True 0)) := by
  refine hv_bi .int (Or.inl rfl) (own := RX5) (by decide +kernel) rfl (Nat.le_of_ble_eq_true rfl) (fun p e s m a below meth c ls Q hx hb hml hown hts hnm hret hw hl => ?_)
  have hl : lv_has ls 5 [(0, .ref o), (1, .int c9)] := hl
  have hF : mo_fr o ma h h := mo_fr.rf
  have hmx : o_many (σ.2 0) ≤ 5 := hok.2.2.1
  have hpx : o_people (σ.2 0) ≤ 6 := hok.2.2.2.2.1
  refine lv_aload_n hx hb dX5_line_0 rfl (lv_at hl 0 rfl) ?_
  refine lv_aload_n hx hb dX5_line_1 rfl (lv_at hl 0 rfl) ?_
  refine lv_iload_n hx hb dX5_line_2 rfl (lv_at hl 1 rfl) ?_
  refine hv_callir (va_runV (As := [.int c9]) (rest := [.ref o]) ⟨hx, hb, hml, hown, hts⟩ (met_X5_isCitizen l G hM c9 ) (cwV 1 hts (lw_V q2736 q2738 qs58 q106 q2739) rfl rfl rfl (by decide +kernel) ⟨Nat.le_of_ble_eq_true rfl, Nat.le_of_ble_eq_true rfl⟩) (hv_preV hw pk_X5 hM.1) rfl rfl hl.1 rfl (lv_room (Nat.le_of_ble_eq_true rfl)) dX5_line_3 ⟨Nat.le_of_ble_eq_true rfl, Nat.le_of_ble_eq_true rfl⟩) hw (fun H locs hw => ?_)
  refine lv_iconst (v := 1) hx hb dX5_line_6 (by decide) ?_
  refine lv_iconst (v := 1) hx hb dX5_line_7 (by decide) ?_
  refine lv_iconst (v := 0) hx hb dX5_line_8 (by decide) ?_
  refine mo_calli (va_runV (As := [.int (b01 (0 ≤ c9 ∧ c9 ≤ σ.2 0 5 - 1)), .int 1, .int 1, .int 0]) (rest := []) ⟨hx, hb, hml, hown, hts⟩ (met_X5_goes l G hM (0 ≤ c9 ∧ c9 ≤ σ.2 0 5 - 1) 1 (True) 0 (by decide) (fun z => absurd trivial z)) (cwV 4 hts (lw_V q2825 q2827 qs75 q106 q2828) rfl rfl rfl (by decide +kernel) ⟨Nat.le_of_ble_eq_true rfl, Nat.le_of_ble_eq_true rfl⟩) (hv_preV hw pk_X5 hM.1) rfl rfl hl.1 rfl (lv_room (Nat.le_of_ble_eq_true rfl)) dX5_line_9 ⟨Nat.le_of_ble_eq_true rfl, Nat.le_of_ble_eq_true rfl⟩) hw hF (fun hh H locs hM hF hw => ?_)
  refine lv_if_ne (tgt := 17) hx hb dX5_line_12 (by decide) (fun c12 => ?_) (fun c12 => ?_)
  · skip
    have c12 : (0 ≤ c9 ∧ c9 ≤ σ.2 0 5 - 1) ∧ (True) := b01_n.mp c12
    obtain ⟨nc, hnc, rfl⟩ := o_ix c12.1 (congrArg (· - 1) hok.2.2.2.1) (by omega)
    have hwv : okL (σ.2 0) nc := by have h9 := hL; rw [o_n_nI (show nc < 2 ^ 31 by omega)] at h9; exact h9
    have e_nc : o_n (nI nc) = nc := o_n_nI (by omega)
    have hM : isMod G hh o ma (mo_nl (mo_st σ 15 (m_gv (0 ≤ nI nc ∧ nI nc ≤ σ.2 0 5 - 1) 1 True 0)) ((σ.2 13, 0) : wR).1) := by show isMod G hh o ma (mo_nl (mo_st σ 15 (m_gv (0 ≤ nI nc ∧ nI nc ≤ σ.2 0 5 - 1) 1 True 0)) ((mo_st σ 15 (m_gv (0 ≤ nI nc ∧ nI nc ≤ σ.2 0 5 - 1) 1 True 0)).2 13)); rw [mo_nl_self]; exact hM
    have hub0 : ((σ.2 13, 0) : wR).2 ≤ 0 := Nat.le_refl _
    refine lv_aload_n hx hb dX5_line_17 rfl (lv_at hl 0 rfl) ?_
    refine lv_aload_n hx hb dX5_line_18 rfl (lv_at hl 0 rfl) ?_
    refine lv_iconst (v := 0) hx hb dX5_line_19 (by decide) ?_
    refine lv_iload_n hx hb dX5_line_20 rfl (lv_at hl 1 rfl) ?_
    have hub_1p : (((σ.2 13, 0) : wR)).2 ≤ 0 := by assumption
    have hub_1d : d_hi nc ≤ 7 := d_hi_7 _
    refine mo_calli (va_runV (As := [.int (nI ((σ.2 13, 0) : wR).2), .int (nI nc)]) (rest := [.ref o]) ⟨hx, hb, hml, hown, hts⟩ (met_X5_writesNumber l G hM ((σ.2 13, 0) : wR).2 nc (by omega) (show ((σ.2 13, 0) : wR).2 + d_hi nc + 1 ≤ 80 by omega)) (cwV 2 hts (lw_V q2922 q2924 qs81 q106 q2925) rfl rfl rfl (by decide +kernel) ⟨Nat.le_of_ble_eq_true rfl, Nat.le_of_ble_eq_true rfl⟩) (hv_preV hw pk_X5 hM.1) rfl rfl hl.1 rfl (lv_room (Nat.le_of_ble_eq_true rfl)) dX5_line_21 ⟨Nat.le_of_ble_eq_true rfl, Nat.le_of_ble_eq_true rfl⟩) hw hF (fun hh H locs hM hF hw => ?_)
    rw [mo_nl_nm] at hM
    have hub_1 : (w_num ((σ.2 13, 0) : wR) nc).2 ≤ 0 + 8 := by rw [w_num_2]; omega
    have hM : isMod G hh o ma (mo_nl (mo_st σ 15 (m_gv (0 ≤ nI nc ∧ nI nc ≤ σ.2 0 5 - 1) 1 True 0)) (w_num ((σ.2 13, 0) : wR) nc).1) := hM
    refine lv_bipush (v := 58) hx hb dX5_line_24 (by decide) ?_
    have hub_2p : (w_num ((σ.2 13, 0) : wR) nc).2 ≤ 0 + 8 := by assumption
    refine mo_calli (va_runV (As := [.int (nI (w_num ((σ.2 13, 0) : wR) nc).2), .int 58]) (rest := []) ⟨hx, hb, hml, hown, hts⟩ (met_X5_put l G hM (w_num ((σ.2 13, 0) : wR) nc).2 58 (show (w_num ((σ.2 13, 0) : wR) nc).2 < 80 by omega)) (cwV 2 hts (lw_V q2926 q2928 qs82 q106 q2929) rfl rfl rfl (by decide +kernel) ⟨Nat.le_of_ble_eq_true rfl, Nat.le_of_ble_eq_true rfl⟩) (hv_preV hw pk_X5 hM.1) rfl rfl hl.1 rfl (lv_room (Nat.le_of_ble_eq_true rfl)) dX5_line_26 ⟨Nat.le_of_ble_eq_true rfl, Nat.le_of_ble_eq_true rfl⟩) hw hF (fun hh H locs hM hF hw => ?_)
    rw [mo_nl_ch] at hM
    have hub_2 : (w_ch (w_num ((σ.2 13, 0) : wR) nc) 58).2 ≤ 0 + 8 + 1 := by rw [w_ch_2]; omega
    have hM : isMod G hh o ma (mo_nl (mo_st σ 15 (m_gv (0 ≤ nI nc ∧ nI nc ≤ σ.2 0 5 - 1) 1 True 0)) (w_ch (w_num ((σ.2 13, 0) : wR) nc) 58).1) := hM
    refine lv_istore_n (lv' := [(2, .int (nI (w_ch (w_num ((σ.2 13, 0) : wR) nc) 58).2)), (0, .ref o), (1, .int (nI nc))]) hx hb dX5_line_29 rfl hl (by decide) rfl (fun ls hl => ?_)
    refine lv_aload_n hx hb dX5_line_30 rfl (lv_at hl 1 rfl) ?_
    refine lv_iload_n hx hb dX5_line_31 rfl (lv_at hl 0 rfl) ?_
    refine lv_aload_n hx hb dX5_line_32 rfl (lv_at hl 1 rfl) ?_
    refine lv_iload_n hx hb dX5_line_33 rfl (lv_at hl 2 rfl) ?_
    refine lv_iconst (v := 0) hx hb dX5_line_34 (by decide) ?_
    refine hv_callir (va_runV (As := [.int (nI nc), .int 0]) (rest := [.int (nI (w_ch (w_num ((σ.2 13, 0) : wR) nc) 58).2), .ref o]) ⟨hx, hb, hml, hown, hts⟩ (met_X5_of l G hM nc 0 (by omega)) (cwV 2 hts (lw_V q2740 q2742 qs59 q106 q2743) rfl rfl rfl (by decide +kernel) ⟨Nat.le_of_ble_eq_true rfl, Nat.le_of_ble_eq_true rfl⟩) (hv_preV hw pk_X5 hM.1) rfl rfl hl.1 rfl (lv_room (Nat.le_of_ble_eq_true rfl)) dX5_line_35 ⟨Nat.le_of_ble_eq_true rfl, Nat.le_of_ble_eq_true rfl⟩) hw (fun H locs hw => ?_)
    have hwx_3 := hwv (0) (by omega)
    refine lv_tope (y := nI (o_wv (σ.2 0) nc 0)) (hwx_3.1) ?_
    have hub_4p : (w_ch (w_num ((σ.2 13, 0) : wR) nc) 58).2 ≤ 0 + 8 + 1 := by assumption
    have hub_4d : d_hi (o_wv (σ.2 0) nc 0) ≤ 7 := d_hi_7 _
    refine mo_calli (va_runV (As := [.int (nI (w_ch (w_num ((σ.2 13, 0) : wR) nc) 58).2), .int (nI (o_wv (σ.2 0) nc 0))]) (rest := []) ⟨hx, hb, hml, hown, hts⟩ (met_X5_writesNumber l G hM (w_ch (w_num ((σ.2 13, 0) : wR) nc) 58).2 (o_wv (σ.2 0) nc 0) (by omega) (show (w_ch (w_num ((σ.2 13, 0) : wR) nc) 58).2 + d_hi (o_wv (σ.2 0) nc 0) + 1 ≤ 80 by omega)) (cwV 2 hts (lw_V q2922 q2924 qs81 q106 q2925) rfl rfl rfl (by decide +kernel) ⟨Nat.le_of_ble_eq_true rfl, Nat.le_of_ble_eq_true rfl⟩) (hv_preV hw pk_X5 hM.1) rfl rfl hl.1 rfl (lv_room (Nat.le_of_ble_eq_true rfl)) dX5_line_38 ⟨Nat.le_of_ble_eq_true rfl, Nat.le_of_ble_eq_true rfl⟩) hw hF (fun hh H locs hM hF hw => ?_)
    rw [mo_nl_nm] at hM
    have hub_4 : (w_num (w_ch (w_num ((σ.2 13, 0) : wR) nc) 58) (o_wv (σ.2 0) nc 0)).2 ≤ 0 + 8 + 1 + 8 := by rw [w_num_2]; omega
    have hM : isMod G hh o ma (mo_nl (mo_st σ 15 (m_gv (0 ≤ nI nc ∧ nI nc ≤ σ.2 0 5 - 1) 1 True 0)) (w_num (w_ch (w_num ((σ.2 13, 0) : wR) nc) 58) (o_wv (σ.2 0) nc 0)).1) := hM
    refine lv_istore_n (lv' := [(2, .int (nI (w_num (w_ch (w_num ((σ.2 13, 0) : wR) nc) 58) (o_wv (σ.2 0) nc 0)).2)), (0, .ref o), (1, .int (nI nc))]) hx hb dX5_line_41 rfl hl (by decide) rfl (fun ls hl => ?_)
    refine lv_iconst (v := 0) hx hb dX5_line_42 (by decide) ?_
    refine lv_istore_n (lv' := [(3, .int 0), (2, .int (nI (w_num (w_ch (w_num ((σ.2 13, 0) : wR) nc) 58) (o_wv (σ.2 0) nc 0)).2)), (0, .ref o), (1, .int (nI nc))]) hx hb dX5_line_43 rfl hl (by decide) rfl (fun ls hl => ?_)
    have LP44 : ∀ (n44 : Nat) (k : Nat) (hh : hp) (H : Heap) (locs : List Loc) (ls : Array Slot), 4 - k < n44 → k ≤ 3 → (w_kds (σ.2 0) nc (w_num (w_ch (w_num ((σ.2 13, 0) : wR) nc) 58) (o_wv (σ.2 0) nc 0)) k).2 ≤ 18 + 11 * k → isMod G hh o ma (mo_nl (mo_st σ 15 (m_gv (0 ≤ nI nc ∧ nI nc ≤ σ.2 0 5 - 1) 1 True 0)) (w_kds (σ.2 0) nc (w_num (w_ch (w_num ((σ.2 13, 0) : wR) nc) 58) (o_wv (σ.2 0) nc 0)) k).1) → mo_fr o ma h hh → hv_W G s hh H locs → lv_has ls 5 [(3, .int (nI k)), (2, .int (nI (w_kds (σ.2 0) nc (w_num (w_ch (w_num ((σ.2 13, 0) : wR) nc) 58) (o_wv (σ.2 0) nc 0)) k).2)), (0, .ref o), (1, .int (nI nc))] → W p l e ({ frames := 2, cells := 0, slots := 0, locals := 46 } : Room) s m a below meth c H locs 0 0 Q (F0 m 44 ls []) := by
      intro n44
      induction n44 with
      | zero => exact fun k hh H locs ls hmu44 => absurd hmu44 (Nat.not_lt_zero _)
      | succ n44 ih44 =>
        intro k hh H locs ls hmu44 hk4 hubk hM hF hw hl
        refine lv_iload_n hx hb dX5_line_44 rfl (lv_at hl 0 rfl) ?_
        refine lv_iconst (v := 3) hx hb dX5_line_45 (by decide) ?_
        refine lv_icmp_ge (tgt := 137) hx hb dX5_line_46 (by decide) (fun c46 => ?_) (fun c46 => ?_)
        · skip
          have hk3 : 3 ≤ k := cmp_le (a := 3) c46 rfl rfl (by omega) (by omega)
          obtain rfl : k = 3 := by omega
          have hubk : (w_kds (σ.2 0) nc (w_num (w_ch (w_num ((σ.2 13, 0) : wR) nc) 58) (o_wv (σ.2 0) nc 0)) 3).2 ≤ 18 + 11 * 3 := hubk
          refine lv_aload_n hx hb dX5_line_137 rfl (lv_at hl 2 rfl) ?_
          refine lv_iload_n hx hb dX5_line_138 rfl (lv_at hl 3 rfl) ?_
          refine lv_iconst (v := 2) hx hb dX5_line_139 (by decide) ?_
          refine hv_callir (va_runV (As := [.int (nI nc), .int 2]) (rest := []) ⟨hx, hb, hml, hown, hts⟩ (met_X5_of l G hM nc 2 (by omega)) (cwV 2 hts (lw_V q2740 q2742 qs59 q106 q2743) rfl rfl rfl (by decide +kernel) ⟨Nat.le_of_ble_eq_true rfl, Nat.le_of_ble_eq_true rfl⟩) (hv_preV hw pk_X5 hM.1) rfl rfl hl.1 rfl (lv_room (Nat.le_of_ble_eq_true rfl)) dX5_line_140 ⟨Nat.le_of_ble_eq_true rfl, Nat.le_of_ble_eq_true rfl⟩) hw (fun H locs hw => ?_)
          have hwx_5 := hwv (2) (by omega)
          refine lv_tope (y := nI (o_wv (σ.2 0) nc 2)) (hwx_5.1) ?_
          refine lv_if_le (tgt := 172) hx hb dX5_line_143 (by decide) (fun c143 => ?_) (fun c143 => ?_)
          · skip
            have hz : ¬ 0 < o_wv (σ.2 0) nc 2 := Nat.not_lt.mpr (cmp_le (b := 0) c143 rfl rfl (by have := (hwv 2 (by decide)).2; omega) (by omega))
            refine lv_iload_n hx hb dX5_line_172 rfl (lv_at hl 1 rfl) ?_
            refine lv_istore_n (lv' := [(2, .int (nI (w_kds (σ.2 0) nc (w_num (w_ch (w_num ((σ.2 13, 0) : wR) nc) 58) (o_wv (σ.2 0) nc 0)) 3).2)), (3, .int (nI 3)), (0, .ref o), (1, .int (nI nc))]) hx hb dX5_line_173 rfl hl (by decide) rfl (fun ls hl => ?_)
            have eL : (w_kds (σ.2 0) nc (w_num (w_ch (w_num ((σ.2 13, 0) : wR) nc) 58) (o_wv (σ.2 0) nc 0)) 3) = (w_line (σ.2 13) (σ.2 0) nc) := by unfold w_line; rw [w_db, if_neg hz]
            rw [eL] at hM hl
            refine lv_aload_n hx hb dX5_line_174 rfl (lv_at hl 2 rfl) ?_
            refine lv_iload_n hx hb dX5_line_175 rfl (lv_at hl 0 rfl) ?_
            refine mo_put hx hb hts hown hw hM hF 14 (by decide) rfl q2568 rfl rfl rfl rfl dX5_line_176 (fun hh H locs hM hF hw => ?_)
            refine lv_iload_n hx hb dX5_line_179 rfl (lv_at hl 0 rfl) ?_
            exact hret rfl hw ⟨by rw [if_pos c12, e_nc], by rw [if_pos c12, e_nc]; exact hM, hF⟩ (Nat.le_of_ble_eq_true rfl) (Nat.le_of_ble_eq_true rfl) dX5_line_180
          · skip
            have hwd := (hwv 2 (by decide)).2
            have hz : 0 < o_wv (σ.2 0) nc 2 := cmp_nle (b := 0) c143 rfl rfl (by omega) (by omega)
            refine lv_aload_n hx hb dX5_line_146 rfl (lv_at hl 2 rfl) ?_
            refine lv_aload_n hx hb dX5_line_147 rfl (lv_at hl 2 rfl) ?_
            refine lv_aload_n hx hb dX5_line_148 rfl (lv_at hl 2 rfl) ?_
            refine lv_iload_n hx hb dX5_line_149 rfl (lv_at hl 1 rfl) ?_
            refine lv_bipush (v := 32) hx hb dX5_line_150 (by decide) ?_
            have hub_6p : ((w_kds (σ.2 0) nc (w_num (w_ch (w_num ((σ.2 13, 0) : wR) nc) 58) (o_wv (σ.2 0) nc 0)) 3)).2 ≤ 18 + 11 * 3 := by assumption
            refine mo_calli (va_runV (As := [.int (nI (w_kds (σ.2 0) nc (w_num (w_ch (w_num ((σ.2 13, 0) : wR) nc) 58) (o_wv (σ.2 0) nc 0)) 3).2), .int 32]) (rest := [.ref o, .ref o]) ⟨hx, hb, hml, hown, hts⟩ (met_X5_put l G hM (w_kds (σ.2 0) nc (w_num (w_ch (w_num ((σ.2 13, 0) : wR) nc) 58) (o_wv (σ.2 0) nc 0)) 3).2 32 (show (w_kds (σ.2 0) nc (w_num (w_ch (w_num ((σ.2 13, 0) : wR) nc) 58) (o_wv (σ.2 0) nc 0)) 3).2 < 80 by omega)) (cwV 2 hts (lw_V q2926 q2928 qs82 q106 q2929) rfl rfl rfl (by decide +kernel) ⟨Nat.le_of_ble_eq_true rfl, Nat.le_of_ble_eq_true rfl⟩) (hv_preV hw pk_X5 hM.1) rfl rfl hl.1 rfl (lv_room (Nat.le_of_ble_eq_true rfl)) dX5_line_152 ⟨Nat.le_of_ble_eq_true rfl, Nat.le_of_ble_eq_true rfl⟩) hw hF (fun hh H locs hM hF hw => ?_)
            rw [mo_nl_ch] at hM
            have hub_6 : (w_ch (w_kds (σ.2 0) nc (w_num (w_ch (w_num ((σ.2 13, 0) : wR) nc) 58) (o_wv (σ.2 0) nc 0)) 3) 32).2 ≤ 18 + 11 * 3 + 1 := by rw [w_ch_2]; omega
            have hM : isMod G hh o ma (mo_nl (mo_st σ 15 (m_gv (0 ≤ nI nc ∧ nI nc ≤ σ.2 0 5 - 1) 1 True 0)) (w_ch (w_kds (σ.2 0) nc (w_num (w_ch (w_num ((σ.2 13, 0) : wR) nc) 58) (o_wv (σ.2 0) nc 0)) 3) 32).1) := hM
            refine lv_bipush (v := 45) hx hb dX5_line_155 (by decide) ?_
            have hub_7p : (w_ch (w_kds (σ.2 0) nc (w_num (w_ch (w_num ((σ.2 13, 0) : wR) nc) 58) (o_wv (σ.2 0) nc 0)) 3) 32).2 ≤ 18 + 11 * 3 + 1 := by assumption
            refine mo_calli (va_runV (As := [.int (nI (w_ch (w_kds (σ.2 0) nc (w_num (w_ch (w_num ((σ.2 13, 0) : wR) nc) 58) (o_wv (σ.2 0) nc 0)) 3) 32).2), .int 45]) (rest := [.ref o]) ⟨hx, hb, hml, hown, hts⟩ (met_X5_put l G hM (w_ch (w_kds (σ.2 0) nc (w_num (w_ch (w_num ((σ.2 13, 0) : wR) nc) 58) (o_wv (σ.2 0) nc 0)) 3) 32).2 45 (show (w_ch (w_kds (σ.2 0) nc (w_num (w_ch (w_num ((σ.2 13, 0) : wR) nc) 58) (o_wv (σ.2 0) nc 0)) 3) 32).2 < 80 by omega)) (cwV 2 hts (lw_V q2926 q2928 qs82 q106 q2929) rfl rfl rfl (by decide +kernel) ⟨Nat.le_of_ble_eq_true rfl, Nat.le_of_ble_eq_true rfl⟩) (hv_preV hw pk_X5 hM.1) rfl rfl hl.1 rfl (lv_room (Nat.le_of_ble_eq_true rfl)) dX5_line_157 ⟨Nat.le_of_ble_eq_true rfl, Nat.le_of_ble_eq_true rfl⟩) hw hF (fun hh H locs hM hF hw => ?_)
            rw [mo_nl_ch] at hM
            have hub_7 : (w_ch (w_ch (w_kds (σ.2 0) nc (w_num (w_ch (w_num ((σ.2 13, 0) : wR) nc) 58) (o_wv (σ.2 0) nc 0)) 3) 32) 45).2 ≤ 18 + 11 * 3 + 1 + 1 := by rw [w_ch_2]; omega
            have hM : isMod G hh o ma (mo_nl (mo_st σ 15 (m_gv (0 ≤ nI nc ∧ nI nc ≤ σ.2 0 5 - 1) 1 True 0)) (w_ch (w_ch (w_kds (σ.2 0) nc (w_num (w_ch (w_num ((σ.2 13, 0) : wR) nc) 58) (o_wv (σ.2 0) nc 0)) 3) 32) 45).1) := hM
            refine lv_aload_n hx hb dX5_line_160 rfl (lv_at hl 2 rfl) ?_
            refine lv_iload_n hx hb dX5_line_161 rfl (lv_at hl 3 rfl) ?_
            refine lv_iconst (v := 2) hx hb dX5_line_162 (by decide) ?_
            refine hv_callir (va_runV (As := [.int (nI nc), .int 2]) (rest := [.int (nI (w_ch (w_ch (w_kds (σ.2 0) nc (w_num (w_ch (w_num ((σ.2 13, 0) : wR) nc) 58) (o_wv (σ.2 0) nc 0)) 3) 32) 45).2), .ref o]) ⟨hx, hb, hml, hown, hts⟩ (met_X5_of l G hM nc 2 (by omega)) (cwV 2 hts (lw_V q2740 q2742 qs59 q106 q2743) rfl rfl rfl (by decide +kernel) ⟨Nat.le_of_ble_eq_true rfl, Nat.le_of_ble_eq_true rfl⟩) (hv_preV hw pk_X5 hM.1) rfl rfl hl.1 rfl (lv_room (Nat.le_of_ble_eq_true rfl)) dX5_line_163 ⟨Nat.le_of_ble_eq_true rfl, Nat.le_of_ble_eq_true rfl⟩) hw (fun H locs hw => ?_)
            have hwx_8 := hwv (2) (by omega)
            refine lv_tope (y := nI (o_wv (σ.2 0) nc 2)) (hwx_8.1) ?_
            have hub_9p : (w_ch (w_ch (w_kds (σ.2 0) nc (w_num (w_ch (w_num ((σ.2 13, 0) : wR) nc) 58) (o_wv (σ.2 0) nc 0)) 3) 32) 45).2 ≤ 18 + 11 * 3 + 1 + 1 := by assumption
            have hub_9d : d_hi (o_wv (σ.2 0) nc 2) ≤ 7 := d_hi_7 _
            refine mo_calli (va_runV (As := [.int (nI (w_ch (w_ch (w_kds (σ.2 0) nc (w_num (w_ch (w_num ((σ.2 13, 0) : wR) nc) 58) (o_wv (σ.2 0) nc 0)) 3) 32) 45).2), .int (nI (o_wv (σ.2 0) nc 2))]) (rest := []) ⟨hx, hb, hml, hown, hts⟩ (met_X5_writesNumber l G hM (w_ch (w_ch (w_kds (σ.2 0) nc (w_num (w_ch (w_num ((σ.2 13, 0) : wR) nc) 58) (o_wv (σ.2 0) nc 0)) 3) 32) 45).2 (o_wv (σ.2 0) nc 2) (by omega) (show (w_ch (w_ch (w_kds (σ.2 0) nc (w_num (w_ch (w_num ((σ.2 13, 0) : wR) nc) 58) (o_wv (σ.2 0) nc 0)) 3) 32) 45).2 + d_hi (o_wv (σ.2 0) nc 2) + 1 ≤ 80 by omega)) (cwV 2 hts (lw_V q2922 q2924 qs81 q106 q2925) rfl rfl rfl (by decide +kernel) ⟨Nat.le_of_ble_eq_true rfl, Nat.le_of_ble_eq_true rfl⟩) (hv_preV hw pk_X5 hM.1) rfl rfl hl.1 rfl (lv_room (Nat.le_of_ble_eq_true rfl)) dX5_line_166 ⟨Nat.le_of_ble_eq_true rfl, Nat.le_of_ble_eq_true rfl⟩) hw hF (fun hh H locs hM hF hw => ?_)
            rw [mo_nl_nm] at hM
            have hub_9 : (w_num (w_ch (w_ch (w_kds (σ.2 0) nc (w_num (w_ch (w_num ((σ.2 13, 0) : wR) nc) 58) (o_wv (σ.2 0) nc 0)) 3) 32) 45) (o_wv (σ.2 0) nc 2)).2 ≤ 18 + 11 * 3 + 1 + 1 + 8 := by rw [w_num_2]; omega
            have hM : isMod G hh o ma (mo_nl (mo_st σ 15 (m_gv (0 ≤ nI nc ∧ nI nc ≤ σ.2 0 5 - 1) 1 True 0)) (w_num (w_ch (w_ch (w_kds (σ.2 0) nc (w_num (w_ch (w_num ((σ.2 13, 0) : wR) nc) 58) (o_wv (σ.2 0) nc 0)) 3) 32) 45) (o_wv (σ.2 0) nc 2)).1) := hM
            refine lv_goto (tgt := 173) hx hb dX5_line_169 (by decide) ?_
            refine lv_istore_n (lv' := [(2, .int (nI (w_num (w_ch (w_ch (w_kds (σ.2 0) nc (w_num (w_ch (w_num ((σ.2 13, 0) : wR) nc) 58) (o_wv (σ.2 0) nc 0)) 3) 32) 45) (o_wv (σ.2 0) nc 2)).2)), (3, .int (nI 3)), (0, .ref o), (1, .int (nI nc))]) hx hb dX5_line_173 rfl hl (by decide) rfl (fun ls hl => ?_)
            have eL : w_num (w_ch (w_ch (w_kds (σ.2 0) nc (w_num (w_ch (w_num ((σ.2 13, 0) : wR) nc) 58) (o_wv (σ.2 0) nc 0)) 3) 32) 45) (o_wv (σ.2 0) nc 2) = (w_line (σ.2 13) (σ.2 0) nc) := by unfold w_line; rw [w_db, if_pos hz]
            rw [eL] at hM hl
            refine lv_aload_n hx hb dX5_line_174 rfl (lv_at hl 2 rfl) ?_
            refine lv_iload_n hx hb dX5_line_175 rfl (lv_at hl 0 rfl) ?_
            refine mo_put hx hb hts hown hw hM hF 14 (by decide) rfl q2568 rfl rfl rfl rfl dX5_line_176 (fun hh H locs hM hF hw => ?_)
            refine lv_iload_n hx hb dX5_line_179 rfl (lv_at hl 0 rfl) ?_
            exact hret rfl hw ⟨by rw [if_pos c12, e_nc], by rw [if_pos c12, e_nc]; exact hM, hF⟩ (Nat.le_of_ble_eq_true rfl) (Nat.le_of_ble_eq_true rfl) dX5_line_180
        · skip
          have hk3 : k < 3 := cmp_nle (a := 3) c46 rfl rfl (by omega) (by omega)
          have hwa := (hwv (13 + 2 * k) (by omega)).2
          have hwb := (hwv (13 + 2 * k + 1) (by omega)).2
          refine lv_aload_n hx hb dX5_line_49 rfl (lv_at hl 2 rfl) ?_
          refine lv_iload_n hx hb dX5_line_50 rfl (lv_at hl 3 rfl) ?_
          refine lv_iload_n hx hb dX5_line_51 rfl (lv_at hl 0 rfl) ?_
          refine hv_callir (va_runV (As := [.int (nI nc), .int (nI k)]) (rest := []) ⟨hx, hb, hml, hown, hts⟩ (met_X5_proved l G hM nc k (by omega)) (cwV 2 hts (lw_V q2764 q2766 qs64 q106 q2767) rfl rfl rfl (by decide +kernel) ⟨Nat.le_of_ble_eq_true rfl, Nat.le_of_ble_eq_true rfl⟩) (hv_preV hw pk_X5 hM.1) rfl rfl hl.1 rfl (lv_room (Nat.le_of_ble_eq_true rfl)) dX5_line_52 ⟨Nat.le_of_ble_eq_true rfl, Nat.le_of_ble_eq_true rfl⟩) hw (fun H locs hw => ?_)
          have hwx_10 := hwv (13 + 2 * k) (by omega)
          refine lv_tope (y := nI (o_wv (σ.2 0) nc (13 + 2 * k))) (hwx_10.1) ?_
          refine lv_aload_n hx hb dX5_line_55 rfl (lv_at hl 2 rfl) ?_
          refine lv_iload_n hx hb dX5_line_56 rfl (lv_at hl 3 rfl) ?_
          refine lv_iload_n hx hb dX5_line_57 rfl (lv_at hl 0 rfl) ?_
          refine hv_callir (va_runV (As := [.int (nI nc), .int (nI k)]) (rest := [.int (nI (o_wv (σ.2 0) nc (13 + 2 * k)))]) ⟨hx, hb, hml, hown, hts⟩ (met_X5_unproved l G hM nc k (by omega)) (cwV 2 hts (lw_V q2768 q2770 qs65 q106 q2771) rfl rfl rfl (by decide +kernel) ⟨Nat.le_of_ble_eq_true rfl, Nat.le_of_ble_eq_true rfl⟩) (hv_preV hw pk_X5 hM.1) rfl rfl hl.1 rfl (lv_room (Nat.le_of_ble_eq_true rfl)) dX5_line_58 ⟨Nat.le_of_ble_eq_true rfl, Nat.le_of_ble_eq_true rfl⟩) hw (fun H locs hw => ?_)
          have hwx_11 := hwv (13 + 2 * k + 1) (by omega)
          refine lv_tope (y := nI (o_wv (σ.2 0) nc (13 + 2 * k + 1))) (hwx_11.1) ?_
          refine lv_iadd hx hb dX5_line_61 ?_
          refine lv_tope (y := nI (o_wv (σ.2 0) nc (13 + 2 * k) + o_wv (σ.2 0) nc (13 + 2 * k + 1))) (by simp only [nI, Int32.ofNat_add, Int32.ofNat_mul] <;> rfl) ?_
          refine lv_istore (lv' := [(4, .int (nI (o_wv (σ.2 0) nc (13 + 2 * k) + o_wv (σ.2 0) nc (13 + 2 * k + 1)))), (3, .int (nI k)), (2, .int (nI (w_kds (σ.2 0) nc (w_num (w_ch (w_num ((σ.2 13, 0) : wR) nc) 58) (o_wv (σ.2 0) nc 0)) k).2)), (0, .ref o), (1, .int (nI nc))]) hx hb dX5_line_62 hl (by decide) rfl (fun ls hl => ?_)
          refine lv_iload hx hb dX5_line_64 (lv_at hl 0 rfl) ?_
          refine lv_if_le (tgt := 131) hx hb dX5_line_66 (by decide) (fun c66 => ?_) (fun c66 => ?_)
          · skip
            have hz : ¬ 0 < (o_wv (σ.2 0) nc (13 + 2 * k) + o_wv (σ.2 0) nc (13 + 2 * k + 1)) := Nat.not_lt.mpr (cmp_le (b := 0) c66 rfl rfl (by omega) (by omega))
            have eK : (w_kds (σ.2 0) nc (w_num (w_ch (w_num ((σ.2 13, 0) : wR) nc) 58) (o_wv (σ.2 0) nc 0)) k).2 = (w_kds (σ.2 0) nc (w_num (w_ch (w_num ((σ.2 13, 0) : wR) nc) 58) (o_wv (σ.2 0) nc 0)) (k + 1)).2 := by show (w_kds (σ.2 0) nc (w_num (w_ch (w_num ((σ.2 13, 0) : wR) nc) 58) (o_wv (σ.2 0) nc 0)) k).2 = (w_kd (w_kds (σ.2 0) nc (w_num (w_ch (w_num ((σ.2 13, 0) : wR) nc) 58) (o_wv (σ.2 0) nc 0)) k) k (o_wv (σ.2 0) nc (13 + 2 * k) + o_wv (σ.2 0) nc (13 + 2 * k + 1)) (o_wv (σ.2 0) nc (13 + 2 * k + 1))).2; rw [w_kd, if_neg hz]
            have eM : (w_kds (σ.2 0) nc (w_num (w_ch (w_num ((σ.2 13, 0) : wR) nc) 58) (o_wv (σ.2 0) nc 0)) k) = (w_kds (σ.2 0) nc (w_num (w_ch (w_num ((σ.2 13, 0) : wR) nc) 58) (o_wv (σ.2 0) nc 0)) (k + 1)) := by show (w_kds (σ.2 0) nc (w_num (w_ch (w_num ((σ.2 13, 0) : wR) nc) 58) (o_wv (σ.2 0) nc 0)) k) = w_kd (w_kds (σ.2 0) nc (w_num (w_ch (w_num ((σ.2 13, 0) : wR) nc) 58) (o_wv (σ.2 0) nc 0)) k) k (o_wv (σ.2 0) nc (13 + 2 * k) + o_wv (σ.2 0) nc (13 + 2 * k + 1)) (o_wv (σ.2 0) nc (13 + 2 * k + 1)); rw [w_kd, if_neg hz]
            refine lv_iinc (v := nI (k + 1)) (lv' := [(3, .int (nI (k + 1))), (4, .int (nI (o_wv (σ.2 0) nc (13 + 2 * k) + o_wv (σ.2 0) nc (13 + 2 * k + 1)))), (2, .int (nI (w_kds (σ.2 0) nc (w_num (w_ch (w_num ((σ.2 13, 0) : wR) nc) 58) (o_wv (σ.2 0) nc 0)) k).2)), (0, .ref o), (1, .int (nI nc))]) hx hb dX5_line_131 hl (k := 1) rfl (by simp only [nI, Int32.ofNat_add] <;> rfl) (by decide) rfl (fun ls hl => ?_)
            refine lv_goto (tgt := 44) hx hb dX5_line_134 (by decide) ?_
            rw [eM] at hM hl
            have hubk2 : (w_kds (σ.2 0) nc (w_num (w_ch (w_num ((σ.2 13, 0) : wR) nc) 58) (o_wv (σ.2 0) nc 0)) (k + 1)).2 ≤ 18 + 11 * (k + 1) := by rw [← eM]; omega
            exact ih44 (k + 1) _ _ _ _ (by omega) (by omega) (hubk2) hM hF hw (lv_sub hl [0, 2, 3, 4] rfl)
          · skip
            have hz : 0 < (o_wv (σ.2 0) nc (13 + 2 * k) + o_wv (σ.2 0) nc (13 + 2 * k + 1)) := cmp_nle (b := 0) c66 rfl rfl (by omega) (by omega)
            refine lv_aload_n hx hb dX5_line_69 rfl (lv_at hl 3 rfl) ?_
            refine lv_aload_n hx hb dX5_line_70 rfl (lv_at hl 3 rfl) ?_
            refine lv_iload_n hx hb dX5_line_71 rfl (lv_at hl 2 rfl) ?_
            refine lv_bipush (v := 32) hx hb dX5_line_72 (by decide) ?_
            have hub_12p : ((w_kds (σ.2 0) nc (w_num (w_ch (w_num ((σ.2 13, 0) : wR) nc) 58) (o_wv (σ.2 0) nc 0)) k)).2 ≤ 18 + 11 * k := by assumption
            refine mo_calli (va_runV (As := [.int (nI (w_kds (σ.2 0) nc (w_num (w_ch (w_num ((σ.2 13, 0) : wR) nc) 58) (o_wv (σ.2 0) nc 0)) k).2), .int 32]) (rest := [.ref o]) ⟨hx, hb, hml, hown, hts⟩ (met_X5_put l G hM (w_kds (σ.2 0) nc (w_num (w_ch (w_num ((σ.2 13, 0) : wR) nc) 58) (o_wv (σ.2 0) nc 0)) k).2 32 (show (w_kds (σ.2 0) nc (w_num (w_ch (w_num ((σ.2 13, 0) : wR) nc) 58) (o_wv (σ.2 0) nc 0)) k).2 < 80 by omega)) (cwV 2 hts (lw_V q2926 q2928 qs82 q106 q2929) rfl rfl rfl (by decide +kernel) ⟨Nat.le_of_ble_eq_true rfl, Nat.le_of_ble_eq_true rfl⟩) (hv_preV hw pk_X5 hM.1) rfl rfl hl.1 rfl (lv_room (Nat.le_of_ble_eq_true rfl)) dX5_line_74 ⟨Nat.le_of_ble_eq_true rfl, Nat.le_of_ble_eq_true rfl⟩) hw hF (fun hh H locs hM hF hw => ?_)
            rw [mo_nl_ch] at hM
            have hub_12 : (w_ch (w_kds (σ.2 0) nc (w_num (w_ch (w_num ((σ.2 13, 0) : wR) nc) 58) (o_wv (σ.2 0) nc 0)) k) 32).2 ≤ 18 + 11 * k + 1 := by rw [w_ch_2]; omega
            have hM : isMod G hh o ma (mo_nl (mo_st σ 15 (m_gv (0 ≤ nI nc ∧ nI nc ≤ σ.2 0 5 - 1) 1 True 0)) (w_ch (w_kds (σ.2 0) nc (w_num (w_ch (w_num ((σ.2 13, 0) : wR) nc) 58) (o_wv (σ.2 0) nc 0)) k) 32).1) := hM
            refine lv_iload_n hx hb dX5_line_77 rfl (lv_at hl 1 rfl) ?_
            refine lv_if_ne (tgt := 86) hx hb dX5_line_78 (by decide) (fun c78 => ?_) (fun c78 => ?_)
            · skip
              refine lv_iload_n hx hb dX5_line_86 rfl (lv_at hl 1 rfl) ?_
              refine lv_iconst (v := 1) hx hb dX5_line_87 (by decide) ?_
              refine lv_icmp_ne (tgt := 96) hx hb dX5_line_88 (by decide) (fun c88 => ?_) (fun c88 => ?_)
              · skip
                refine lv_bipush (v := 103) hx hb dX5_line_96 (by decide) ?_
                refine lv_tope (y := w_sg k) (by rw [show k = 2 by have h1 := cmp_ne (b := 0) c78 rfl rfl; have h2 := cmp_ne (b := 1) c88 rfl rfl; omega]; rfl) ?_
                have hub_13p : (w_ch (w_kds (σ.2 0) nc (w_num (w_ch (w_num ((σ.2 13, 0) : wR) nc) 58) (o_wv (σ.2 0) nc 0)) k) 32).2 ≤ 18 + 11 * k + 1 := by assumption
                refine mo_calli (va_runV (As := [.int (nI (w_ch (w_kds (σ.2 0) nc (w_num (w_ch (w_num ((σ.2 13, 0) : wR) nc) 58) (o_wv (σ.2 0) nc 0)) k) 32).2), .int (w_sg k)]) (rest := []) ⟨hx, hb, hml, hown, hts⟩ (met_X5_put l G hM (w_ch (w_kds (σ.2 0) nc (w_num (w_ch (w_num ((σ.2 13, 0) : wR) nc) 58) (o_wv (σ.2 0) nc 0)) k) 32).2 (w_sg k) (show (w_ch (w_kds (σ.2 0) nc (w_num (w_ch (w_num ((σ.2 13, 0) : wR) nc) 58) (o_wv (σ.2 0) nc 0)) k) 32).2 < 80 by omega)) (cwV 2 hts (lw_V q2926 q2928 qs82 q106 q2929) rfl rfl rfl (by decide +kernel) ⟨Nat.le_of_ble_eq_true rfl, Nat.le_of_ble_eq_true rfl⟩) (hv_preV hw pk_X5 hM.1) rfl rfl hl.1 rfl (lv_room (Nat.le_of_ble_eq_true rfl)) dX5_line_98 ⟨Nat.le_of_ble_eq_true rfl, Nat.le_of_ble_eq_true rfl⟩) hw hF (fun hh H locs hM hF hw => ?_)
                rw [mo_nl_ch] at hM
                have hub_13 : (w_ch (w_ch (w_kds (σ.2 0) nc (w_num (w_ch (w_num ((σ.2 13, 0) : wR) nc) 58) (o_wv (σ.2 0) nc 0)) k) 32) (w_sg k)).2 ≤ 18 + 11 * k + 1 + 1 := by rw [w_ch_2]; omega
                have hM : isMod G hh o ma (mo_nl (mo_st σ 15 (m_gv (0 ≤ nI nc ∧ nI nc ≤ σ.2 0 5 - 1) 1 True 0)) (w_ch (w_ch (w_kds (σ.2 0) nc (w_num (w_ch (w_num ((σ.2 13, 0) : wR) nc) 58) (o_wv (σ.2 0) nc 0)) k) 32) (w_sg k)).1) := hM
                refine lv_istore_n (lv' := [(2, .int (nI (w_ch (w_ch (w_kds (σ.2 0) nc (w_num (w_ch (w_num ((σ.2 13, 0) : wR) nc) 58) (o_wv (σ.2 0) nc 0)) k) 32) (w_sg k)).2)), (4, .int (nI (o_wv (σ.2 0) nc (13 + 2 * k) + o_wv (σ.2 0) nc (13 + 2 * k + 1)))), (3, .int (nI k)), (0, .ref o), (1, .int (nI nc))]) hx hb dX5_line_101 rfl hl (by decide) rfl (fun ls hl => ?_)
                refine lv_aload_n hx hb dX5_line_102 rfl (lv_at hl 3 rfl) ?_
                refine lv_iload_n hx hb dX5_line_103 rfl (lv_at hl 0 rfl) ?_
                refine lv_iload hx hb dX5_line_104 (lv_at hl 1 rfl) ?_
                have hub_14p : (w_ch (w_ch (w_kds (σ.2 0) nc (w_num (w_ch (w_num ((σ.2 13, 0) : wR) nc) 58) (o_wv (σ.2 0) nc 0)) k) 32) (w_sg k)).2 ≤ 18 + 11 * k + 1 + 1 := by assumption
                have hub_14d : d_hi (o_wv (σ.2 0) nc (13 + 2 * k) + o_wv (σ.2 0) nc (13 + 2 * k + 1)) ≤ 7 := d_hi_7 _
                refine mo_calli (va_runV (As := [.int (nI (w_ch (w_ch (w_kds (σ.2 0) nc (w_num (w_ch (w_num ((σ.2 13, 0) : wR) nc) 58) (o_wv (σ.2 0) nc 0)) k) 32) (w_sg k)).2), .int (nI (o_wv (σ.2 0) nc (13 + 2 * k) + o_wv (σ.2 0) nc (13 + 2 * k + 1)))]) (rest := []) ⟨hx, hb, hml, hown, hts⟩ (met_X5_writesNumber l G hM (w_ch (w_ch (w_kds (σ.2 0) nc (w_num (w_ch (w_num ((σ.2 13, 0) : wR) nc) 58) (o_wv (σ.2 0) nc 0)) k) 32) (w_sg k)).2 (o_wv (σ.2 0) nc (13 + 2 * k) + o_wv (σ.2 0) nc (13 + 2 * k + 1)) (by omega) (show (w_ch (w_ch (w_kds (σ.2 0) nc (w_num (w_ch (w_num ((σ.2 13, 0) : wR) nc) 58) (o_wv (σ.2 0) nc 0)) k) 32) (w_sg k)).2 + d_hi (o_wv (σ.2 0) nc (13 + 2 * k) + o_wv (σ.2 0) nc (13 + 2 * k + 1)) + 1 ≤ 80 by omega)) (cwV 2 hts (lw_V q2922 q2924 qs81 q106 q2925) rfl rfl rfl (by decide +kernel) ⟨Nat.le_of_ble_eq_true rfl, Nat.le_of_ble_eq_true rfl⟩) (hv_preV hw pk_X5 hM.1) rfl rfl hl.1 rfl (lv_room (Nat.le_of_ble_eq_true rfl)) dX5_line_106 ⟨Nat.le_of_ble_eq_true rfl, Nat.le_of_ble_eq_true rfl⟩) hw hF (fun hh H locs hM hF hw => ?_)
                rw [mo_nl_nm] at hM
                have hub_14 : (w_num (w_ch (w_ch (w_kds (σ.2 0) nc (w_num (w_ch (w_num ((σ.2 13, 0) : wR) nc) 58) (o_wv (σ.2 0) nc 0)) k) 32) (w_sg k)) (o_wv (σ.2 0) nc (13 + 2 * k) + o_wv (σ.2 0) nc (13 + 2 * k + 1))).2 ≤ 18 + 11 * k + 1 + 1 + 8 := by rw [w_num_2]; omega
                have hM : isMod G hh o ma (mo_nl (mo_st σ 15 (m_gv (0 ≤ nI nc ∧ nI nc ≤ σ.2 0 5 - 1) 1 True 0)) (w_num (w_ch (w_ch (w_kds (σ.2 0) nc (w_num (w_ch (w_num ((σ.2 13, 0) : wR) nc) 58) (o_wv (σ.2 0) nc 0)) k) 32) (w_sg k)) (o_wv (σ.2 0) nc (13 + 2 * k) + o_wv (σ.2 0) nc (13 + 2 * k + 1))).1) := hM
                refine lv_istore_n (lv' := [(2, .int (nI (w_num (w_ch (w_ch (w_kds (σ.2 0) nc (w_num (w_ch (w_num ((σ.2 13, 0) : wR) nc) 58) (o_wv (σ.2 0) nc 0)) k) 32) (w_sg k)) (o_wv (σ.2 0) nc (13 + 2 * k) + o_wv (σ.2 0) nc (13 + 2 * k + 1))).2)), (4, .int (nI (o_wv (σ.2 0) nc (13 + 2 * k) + o_wv (σ.2 0) nc (13 + 2 * k + 1)))), (3, .int (nI k)), (0, .ref o), (1, .int (nI nc))]) hx hb dX5_line_109 rfl hl (by decide) rfl (fun ls hl => ?_)
                refine lv_aload_n hx hb dX5_line_110 rfl (lv_at hl 3 rfl) ?_
                refine lv_iload_n hx hb dX5_line_111 rfl (lv_at hl 4 rfl) ?_
                refine lv_iload_n hx hb dX5_line_112 rfl (lv_at hl 2 rfl) ?_
                refine hv_callir (va_runV (As := [.int (nI nc), .int (nI k)]) (rest := []) ⟨hx, hb, hml, hown, hts⟩ (met_X5_unproved l G hM nc k (by omega)) (cwV 2 hts (lw_V q2768 q2770 qs65 q106 q2771) rfl rfl rfl (by decide +kernel) ⟨Nat.le_of_ble_eq_true rfl, Nat.le_of_ble_eq_true rfl⟩) (hv_preV hw pk_X5 hM.1) rfl rfl hl.1 rfl (lv_room (Nat.le_of_ble_eq_true rfl)) dX5_line_113 ⟨Nat.le_of_ble_eq_true rfl, Nat.le_of_ble_eq_true rfl⟩) hw (fun H locs hw => ?_)
                have hwx_15 := hwv (13 + 2 * k + 1) (by omega)
                refine lv_tope (y := nI (o_wv (σ.2 0) nc (13 + 2 * k + 1))) (hwx_15.1) ?_
                refine lv_if_le (tgt := 129) hx hb dX5_line_116 (by decide) (fun c116 => ?_) (fun c116 => ?_)
                · skip
                  have hu : ¬ 0 < (o_wv (σ.2 0) nc (13 + 2 * k + 1)) := Nat.not_lt.mpr (cmp_le (b := 0) c116 rfl rfl (by omega) (by omega))
                  refine lv_iload_n hx hb dX5_line_129 rfl (lv_at hl 0 rfl) ?_
                  refine lv_istore_n (lv' := [(2, .int (nI (w_num (w_ch (w_ch (w_kds (σ.2 0) nc (w_num (w_ch (w_num ((σ.2 13, 0) : wR) nc) 58) (o_wv (σ.2 0) nc 0)) k) 32) (w_sg k)) (o_wv (σ.2 0) nc (13 + 2 * k) + o_wv (σ.2 0) nc (13 + 2 * k + 1))).2)), (4, .int (nI (o_wv (σ.2 0) nc (13 + 2 * k) + o_wv (σ.2 0) nc (13 + 2 * k + 1)))), (3, .int (nI k)), (0, .ref o), (1, .int (nI nc))]) hx hb dX5_line_130 rfl hl (by decide) rfl (fun ls hl => ?_)
                  refine lv_iinc (v := nI (k + 1)) (lv' := [(3, .int (nI (k + 1))), (2, .int (nI (w_num (w_ch (w_ch (w_kds (σ.2 0) nc (w_num (w_ch (w_num ((σ.2 13, 0) : wR) nc) 58) (o_wv (σ.2 0) nc 0)) k) 32) (w_sg k)) (o_wv (σ.2 0) nc (13 + 2 * k) + o_wv (σ.2 0) nc (13 + 2 * k + 1))).2)), (4, .int (nI (o_wv (σ.2 0) nc (13 + 2 * k) + o_wv (σ.2 0) nc (13 + 2 * k + 1)))), (0, .ref o), (1, .int (nI nc))]) hx hb dX5_line_131 hl (k := 2) rfl (by simp only [nI, Int32.ofNat_add] <;> rfl) (by decide) rfl (fun ls hl => ?_)
                  refine lv_goto (tgt := 44) hx hb dX5_line_134 (by decide) ?_
                  have eM : w_num (w_ch (w_ch (w_kds (σ.2 0) nc (w_num (w_ch (w_num ((σ.2 13, 0) : wR) nc) 58) (o_wv (σ.2 0) nc 0)) k) 32) (w_sg k)) (o_wv (σ.2 0) nc (13 + 2 * k) + o_wv (σ.2 0) nc (13 + 2 * k + 1)) = (w_kds (σ.2 0) nc (w_num (w_ch (w_num ((σ.2 13, 0) : wR) nc) 58) (o_wv (σ.2 0) nc 0)) (k + 1)) := by show w_num (w_ch (w_ch (w_kds (σ.2 0) nc (w_num (w_ch (w_num ((σ.2 13, 0) : wR) nc) 58) (o_wv (σ.2 0) nc 0)) k) 32) (w_sg k)) (o_wv (σ.2 0) nc (13 + 2 * k) + o_wv (σ.2 0) nc (13 + 2 * k + 1)) = w_kd (w_kds (σ.2 0) nc (w_num (w_ch (w_num ((σ.2 13, 0) : wR) nc) 58) (o_wv (σ.2 0) nc 0)) k) k (o_wv (σ.2 0) nc (13 + 2 * k) + o_wv (σ.2 0) nc (13 + 2 * k + 1)) (o_wv (σ.2 0) nc (13 + 2 * k + 1)); rw [w_kd, if_pos hz, if_neg hu]
                  have hubk2 : (w_kds (σ.2 0) nc (w_num (w_ch (w_num ((σ.2 13, 0) : wR) nc) 58) (o_wv (σ.2 0) nc 0)) (k + 1)).2 ≤ 18 + 11 * (k + 1) := by rw [← eM]; omega
                  rw [eM] at hM hl
                  exact ih44 (k + 1) _ _ _ _ (by omega) (by omega) (hubk2) hM hF hw (lv_sub hl [0, 1, 3, 4] rfl)
                · skip
                  have hu : 0 < (o_wv (σ.2 0) nc (13 + 2 * k + 1)) := cmp_nle (b := 0) c116 rfl rfl (by omega) (by omega)
                  refine lv_aload_n hx hb dX5_line_119 rfl (lv_at hl 3 rfl) ?_
                  refine lv_iload_n hx hb dX5_line_120 rfl (lv_at hl 0 rfl) ?_
                  refine lv_bipush (v := 63) hx hb dX5_line_121 (by decide) ?_
                  have hub_16p : (w_num (w_ch (w_ch (w_kds (σ.2 0) nc (w_num (w_ch (w_num ((σ.2 13, 0) : wR) nc) 58) (o_wv (σ.2 0) nc 0)) k) 32) (w_sg k)) (o_wv (σ.2 0) nc (13 + 2 * k) + o_wv (σ.2 0) nc (13 + 2 * k + 1))).2 ≤ 18 + 11 * k + 1 + 1 + 8 := by assumption
                  refine mo_calli (va_runV (As := [.int (nI (w_num (w_ch (w_ch (w_kds (σ.2 0) nc (w_num (w_ch (w_num ((σ.2 13, 0) : wR) nc) 58) (o_wv (σ.2 0) nc 0)) k) 32) (w_sg k)) (o_wv (σ.2 0) nc (13 + 2 * k) + o_wv (σ.2 0) nc (13 + 2 * k + 1))).2), .int 63]) (rest := []) ⟨hx, hb, hml, hown, hts⟩ (met_X5_put l G hM (w_num (w_ch (w_ch (w_kds (σ.2 0) nc (w_num (w_ch (w_num ((σ.2 13, 0) : wR) nc) 58) (o_wv (σ.2 0) nc 0)) k) 32) (w_sg k)) (o_wv (σ.2 0) nc (13 + 2 * k) + o_wv (σ.2 0) nc (13 + 2 * k + 1))).2 63 (show (w_num (w_ch (w_ch (w_kds (σ.2 0) nc (w_num (w_ch (w_num ((σ.2 13, 0) : wR) nc) 58) (o_wv (σ.2 0) nc 0)) k) 32) (w_sg k)) (o_wv (σ.2 0) nc (13 + 2 * k) + o_wv (σ.2 0) nc (13 + 2 * k + 1))).2 < 80 by omega)) (cwV 2 hts (lw_V q2926 q2928 qs82 q106 q2929) rfl rfl rfl (by decide +kernel) ⟨Nat.le_of_ble_eq_true rfl, Nat.le_of_ble_eq_true rfl⟩) (hv_preV hw pk_X5 hM.1) rfl rfl hl.1 rfl (lv_room (Nat.le_of_ble_eq_true rfl)) dX5_line_123 ⟨Nat.le_of_ble_eq_true rfl, Nat.le_of_ble_eq_true rfl⟩) hw hF (fun hh H locs hM hF hw => ?_)
                  rw [mo_nl_ch] at hM
                  have hub_16 : (w_ch (w_num (w_ch (w_ch (w_kds (σ.2 0) nc (w_num (w_ch (w_num ((σ.2 13, 0) : wR) nc) 58) (o_wv (σ.2 0) nc 0)) k) 32) (w_sg k)) (o_wv (σ.2 0) nc (13 + 2 * k) + o_wv (σ.2 0) nc (13 + 2 * k + 1))) 63).2 ≤ 18 + 11 * k + 1 + 1 + 8 + 1 := by rw [w_ch_2]; omega
                  have hM : isMod G hh o ma (mo_nl (mo_st σ 15 (m_gv (0 ≤ nI nc ∧ nI nc ≤ σ.2 0 5 - 1) 1 True 0)) (w_ch (w_num (w_ch (w_ch (w_kds (σ.2 0) nc (w_num (w_ch (w_num ((σ.2 13, 0) : wR) nc) 58) (o_wv (σ.2 0) nc 0)) k) 32) (w_sg k)) (o_wv (σ.2 0) nc (13 + 2 * k) + o_wv (σ.2 0) nc (13 + 2 * k + 1))) 63).1) := hM
                  refine lv_goto (tgt := 130) hx hb dX5_line_126 (by decide) ?_
                  refine lv_istore_n (lv' := [(2, .int (nI (w_ch (w_num (w_ch (w_ch (w_kds (σ.2 0) nc (w_num (w_ch (w_num ((σ.2 13, 0) : wR) nc) 58) (o_wv (σ.2 0) nc 0)) k) 32) (w_sg k)) (o_wv (σ.2 0) nc (13 + 2 * k) + o_wv (σ.2 0) nc (13 + 2 * k + 1))) 63).2)), (4, .int (nI (o_wv (σ.2 0) nc (13 + 2 * k) + o_wv (σ.2 0) nc (13 + 2 * k + 1)))), (3, .int (nI k)), (0, .ref o), (1, .int (nI nc))]) hx hb dX5_line_130 rfl hl (by decide) rfl (fun ls hl => ?_)
                  refine lv_iinc (v := nI (k + 1)) (lv' := [(3, .int (nI (k + 1))), (2, .int (nI (w_ch (w_num (w_ch (w_ch (w_kds (σ.2 0) nc (w_num (w_ch (w_num ((σ.2 13, 0) : wR) nc) 58) (o_wv (σ.2 0) nc 0)) k) 32) (w_sg k)) (o_wv (σ.2 0) nc (13 + 2 * k) + o_wv (σ.2 0) nc (13 + 2 * k + 1))) 63).2)), (4, .int (nI (o_wv (σ.2 0) nc (13 + 2 * k) + o_wv (σ.2 0) nc (13 + 2 * k + 1)))), (0, .ref o), (1, .int (nI nc))]) hx hb dX5_line_131 hl (k := 2) rfl (by simp only [nI, Int32.ofNat_add] <;> rfl) (by decide) rfl (fun ls hl => ?_)
                  refine lv_goto (tgt := 44) hx hb dX5_line_134 (by decide) ?_
                  have eM : w_ch (w_num (w_ch (w_ch (w_kds (σ.2 0) nc (w_num (w_ch (w_num ((σ.2 13, 0) : wR) nc) 58) (o_wv (σ.2 0) nc 0)) k) 32) (w_sg k)) (o_wv (σ.2 0) nc (13 + 2 * k) + o_wv (σ.2 0) nc (13 + 2 * k + 1))) 63 = (w_kds (σ.2 0) nc (w_num (w_ch (w_num ((σ.2 13, 0) : wR) nc) 58) (o_wv (σ.2 0) nc 0)) (k + 1)) := by show w_ch (w_num (w_ch (w_ch (w_kds (σ.2 0) nc (w_num (w_ch (w_num ((σ.2 13, 0) : wR) nc) 58) (o_wv (σ.2 0) nc 0)) k) 32) (w_sg k)) (o_wv (σ.2 0) nc (13 + 2 * k) + o_wv (σ.2 0) nc (13 + 2 * k + 1))) 63 = w_kd (w_kds (σ.2 0) nc (w_num (w_ch (w_num ((σ.2 13, 0) : wR) nc) 58) (o_wv (σ.2 0) nc 0)) k) k (o_wv (σ.2 0) nc (13 + 2 * k) + o_wv (σ.2 0) nc (13 + 2 * k + 1)) (o_wv (σ.2 0) nc (13 + 2 * k + 1)); rw [w_kd, if_pos hz, if_pos hu]
                  have hubk2 : (w_kds (σ.2 0) nc (w_num (w_ch (w_num ((σ.2 13, 0) : wR) nc) 58) (o_wv (σ.2 0) nc 0)) (k + 1)).2 ≤ 18 + 11 * (k + 1) := by rw [← eM]; omega
                  rw [eM] at hM hl
                  exact ih44 (k + 1) _ _ _ _ (by omega) (by omega) (hubk2) hM hF hw (lv_sub hl [0, 1, 3, 4] rfl)
              · skip
                refine lv_bipush (v := 98) hx hb dX5_line_91 (by decide) ?_
                refine lv_goto (tgt := 98) hx hb dX5_line_93 (by decide) ?_
                refine lv_tope (y := w_sg k) (by rw [show k = 1 from cmp_eq (b := 1) c88 rfl rfl (by omega) (by omega)]; rfl) ?_
                have hub_17p : (w_ch (w_kds (σ.2 0) nc (w_num (w_ch (w_num ((σ.2 13, 0) : wR) nc) 58) (o_wv (σ.2 0) nc 0)) k) 32).2 ≤ 18 + 11 * k + 1 := by assumption
                refine mo_calli (va_runV (As := [.int (nI (w_ch (w_kds (σ.2 0) nc (w_num (w_ch (w_num ((σ.2 13, 0) : wR) nc) 58) (o_wv (σ.2 0) nc 0)) k) 32).2), .int (w_sg k)]) (rest := []) ⟨hx, hb, hml, hown, hts⟩ (met_X5_put l G hM (w_ch (w_kds (σ.2 0) nc (w_num (w_ch (w_num ((σ.2 13, 0) : wR) nc) 58) (o_wv (σ.2 0) nc 0)) k) 32).2 (w_sg k) (show (w_ch (w_kds (σ.2 0) nc (w_num (w_ch (w_num ((σ.2 13, 0) : wR) nc) 58) (o_wv (σ.2 0) nc 0)) k) 32).2 < 80 by omega)) (cwV 2 hts (lw_V q2926 q2928 qs82 q106 q2929) rfl rfl rfl (by decide +kernel) ⟨Nat.le_of_ble_eq_true rfl, Nat.le_of_ble_eq_true rfl⟩) (hv_preV hw pk_X5 hM.1) rfl rfl hl.1 rfl (lv_room (Nat.le_of_ble_eq_true rfl)) dX5_line_98 ⟨Nat.le_of_ble_eq_true rfl, Nat.le_of_ble_eq_true rfl⟩) hw hF (fun hh H locs hM hF hw => ?_)
                rw [mo_nl_ch] at hM
                have hub_17 : (w_ch (w_ch (w_kds (σ.2 0) nc (w_num (w_ch (w_num ((σ.2 13, 0) : wR) nc) 58) (o_wv (σ.2 0) nc 0)) k) 32) (w_sg k)).2 ≤ 18 + 11 * k + 1 + 1 := by rw [w_ch_2]; omega
                have hM : isMod G hh o ma (mo_nl (mo_st σ 15 (m_gv (0 ≤ nI nc ∧ nI nc ≤ σ.2 0 5 - 1) 1 True 0)) (w_ch (w_ch (w_kds (σ.2 0) nc (w_num (w_ch (w_num ((σ.2 13, 0) : wR) nc) 58) (o_wv (σ.2 0) nc 0)) k) 32) (w_sg k)).1) := hM
                refine lv_istore_n (lv' := [(2, .int (nI (w_ch (w_ch (w_kds (σ.2 0) nc (w_num (w_ch (w_num ((σ.2 13, 0) : wR) nc) 58) (o_wv (σ.2 0) nc 0)) k) 32) (w_sg k)).2)), (4, .int (nI (o_wv (σ.2 0) nc (13 + 2 * k) + o_wv (σ.2 0) nc (13 + 2 * k + 1)))), (3, .int (nI k)), (0, .ref o), (1, .int (nI nc))]) hx hb dX5_line_101 rfl hl (by decide) rfl (fun ls hl => ?_)
                refine lv_aload_n hx hb dX5_line_102 rfl (lv_at hl 3 rfl) ?_
                refine lv_iload_n hx hb dX5_line_103 rfl (lv_at hl 0 rfl) ?_
                refine lv_iload hx hb dX5_line_104 (lv_at hl 1 rfl) ?_
                have hub_18p : (w_ch (w_ch (w_kds (σ.2 0) nc (w_num (w_ch (w_num ((σ.2 13, 0) : wR) nc) 58) (o_wv (σ.2 0) nc 0)) k) 32) (w_sg k)).2 ≤ 18 + 11 * k + 1 + 1 := by assumption
                have hub_18d : d_hi (o_wv (σ.2 0) nc (13 + 2 * k) + o_wv (σ.2 0) nc (13 + 2 * k + 1)) ≤ 7 := d_hi_7 _
                refine mo_calli (va_runV (As := [.int (nI (w_ch (w_ch (w_kds (σ.2 0) nc (w_num (w_ch (w_num ((σ.2 13, 0) : wR) nc) 58) (o_wv (σ.2 0) nc 0)) k) 32) (w_sg k)).2), .int (nI (o_wv (σ.2 0) nc (13 + 2 * k) + o_wv (σ.2 0) nc (13 + 2 * k + 1)))]) (rest := []) ⟨hx, hb, hml, hown, hts⟩ (met_X5_writesNumber l G hM (w_ch (w_ch (w_kds (σ.2 0) nc (w_num (w_ch (w_num ((σ.2 13, 0) : wR) nc) 58) (o_wv (σ.2 0) nc 0)) k) 32) (w_sg k)).2 (o_wv (σ.2 0) nc (13 + 2 * k) + o_wv (σ.2 0) nc (13 + 2 * k + 1)) (by omega) (show (w_ch (w_ch (w_kds (σ.2 0) nc (w_num (w_ch (w_num ((σ.2 13, 0) : wR) nc) 58) (o_wv (σ.2 0) nc 0)) k) 32) (w_sg k)).2 + d_hi (o_wv (σ.2 0) nc (13 + 2 * k) + o_wv (σ.2 0) nc (13 + 2 * k + 1)) + 1 ≤ 80 by omega)) (cwV 2 hts (lw_V q2922 q2924 qs81 q106 q2925) rfl rfl rfl (by decide +kernel) ⟨Nat.le_of_ble_eq_true rfl, Nat.le_of_ble_eq_true rfl⟩) (hv_preV hw pk_X5 hM.1) rfl rfl hl.1 rfl (lv_room (Nat.le_of_ble_eq_true rfl)) dX5_line_106 ⟨Nat.le_of_ble_eq_true rfl, Nat.le_of_ble_eq_true rfl⟩) hw hF (fun hh H locs hM hF hw => ?_)
                rw [mo_nl_nm] at hM
                have hub_18 : (w_num (w_ch (w_ch (w_kds (σ.2 0) nc (w_num (w_ch (w_num ((σ.2 13, 0) : wR) nc) 58) (o_wv (σ.2 0) nc 0)) k) 32) (w_sg k)) (o_wv (σ.2 0) nc (13 + 2 * k) + o_wv (σ.2 0) nc (13 + 2 * k + 1))).2 ≤ 18 + 11 * k + 1 + 1 + 8 := by rw [w_num_2]; omega
                have hM : isMod G hh o ma (mo_nl (mo_st σ 15 (m_gv (0 ≤ nI nc ∧ nI nc ≤ σ.2 0 5 - 1) 1 True 0)) (w_num (w_ch (w_ch (w_kds (σ.2 0) nc (w_num (w_ch (w_num ((σ.2 13, 0) : wR) nc) 58) (o_wv (σ.2 0) nc 0)) k) 32) (w_sg k)) (o_wv (σ.2 0) nc (13 + 2 * k) + o_wv (σ.2 0) nc (13 + 2 * k + 1))).1) := hM
                refine lv_istore_n (lv' := [(2, .int (nI (w_num (w_ch (w_ch (w_kds (σ.2 0) nc (w_num (w_ch (w_num ((σ.2 13, 0) : wR) nc) 58) (o_wv (σ.2 0) nc 0)) k) 32) (w_sg k)) (o_wv (σ.2 0) nc (13 + 2 * k) + o_wv (σ.2 0) nc (13 + 2 * k + 1))).2)), (4, .int (nI (o_wv (σ.2 0) nc (13 + 2 * k) + o_wv (σ.2 0) nc (13 + 2 * k + 1)))), (3, .int (nI k)), (0, .ref o), (1, .int (nI nc))]) hx hb dX5_line_109 rfl hl (by decide) rfl (fun ls hl => ?_)
                refine lv_aload_n hx hb dX5_line_110 rfl (lv_at hl 3 rfl) ?_
                refine lv_iload_n hx hb dX5_line_111 rfl (lv_at hl 4 rfl) ?_
                refine lv_iload_n hx hb dX5_line_112 rfl (lv_at hl 2 rfl) ?_
                refine hv_callir (va_runV (As := [.int (nI nc), .int (nI k)]) (rest := []) ⟨hx, hb, hml, hown, hts⟩ (met_X5_unproved l G hM nc k (by omega)) (cwV 2 hts (lw_V q2768 q2770 qs65 q106 q2771) rfl rfl rfl (by decide +kernel) ⟨Nat.le_of_ble_eq_true rfl, Nat.le_of_ble_eq_true rfl⟩) (hv_preV hw pk_X5 hM.1) rfl rfl hl.1 rfl (lv_room (Nat.le_of_ble_eq_true rfl)) dX5_line_113 ⟨Nat.le_of_ble_eq_true rfl, Nat.le_of_ble_eq_true rfl⟩) hw (fun H locs hw => ?_)
                have hwx_19 := hwv (13 + 2 * k + 1) (by omega)
                refine lv_tope (y := nI (o_wv (σ.2 0) nc (13 + 2 * k + 1))) (hwx_19.1) ?_
                refine lv_if_le (tgt := 129) hx hb dX5_line_116 (by decide) (fun c116 => ?_) (fun c116 => ?_)
                · skip
                  have hu : ¬ 0 < (o_wv (σ.2 0) nc (13 + 2 * k + 1)) := Nat.not_lt.mpr (cmp_le (b := 0) c116 rfl rfl (by omega) (by omega))
                  refine lv_iload_n hx hb dX5_line_129 rfl (lv_at hl 0 rfl) ?_
                  refine lv_istore_n (lv' := [(2, .int (nI (w_num (w_ch (w_ch (w_kds (σ.2 0) nc (w_num (w_ch (w_num ((σ.2 13, 0) : wR) nc) 58) (o_wv (σ.2 0) nc 0)) k) 32) (w_sg k)) (o_wv (σ.2 0) nc (13 + 2 * k) + o_wv (σ.2 0) nc (13 + 2 * k + 1))).2)), (4, .int (nI (o_wv (σ.2 0) nc (13 + 2 * k) + o_wv (σ.2 0) nc (13 + 2 * k + 1)))), (3, .int (nI k)), (0, .ref o), (1, .int (nI nc))]) hx hb dX5_line_130 rfl hl (by decide) rfl (fun ls hl => ?_)
                  refine lv_iinc (v := nI (k + 1)) (lv' := [(3, .int (nI (k + 1))), (2, .int (nI (w_num (w_ch (w_ch (w_kds (σ.2 0) nc (w_num (w_ch (w_num ((σ.2 13, 0) : wR) nc) 58) (o_wv (σ.2 0) nc 0)) k) 32) (w_sg k)) (o_wv (σ.2 0) nc (13 + 2 * k) + o_wv (σ.2 0) nc (13 + 2 * k + 1))).2)), (4, .int (nI (o_wv (σ.2 0) nc (13 + 2 * k) + o_wv (σ.2 0) nc (13 + 2 * k + 1)))), (0, .ref o), (1, .int (nI nc))]) hx hb dX5_line_131 hl (k := 2) rfl (by simp only [nI, Int32.ofNat_add] <;> rfl) (by decide) rfl (fun ls hl => ?_)
                  refine lv_goto (tgt := 44) hx hb dX5_line_134 (by decide) ?_
                  have eM : w_num (w_ch (w_ch (w_kds (σ.2 0) nc (w_num (w_ch (w_num ((σ.2 13, 0) : wR) nc) 58) (o_wv (σ.2 0) nc 0)) k) 32) (w_sg k)) (o_wv (σ.2 0) nc (13 + 2 * k) + o_wv (σ.2 0) nc (13 + 2 * k + 1)) = (w_kds (σ.2 0) nc (w_num (w_ch (w_num ((σ.2 13, 0) : wR) nc) 58) (o_wv (σ.2 0) nc 0)) (k + 1)) := by show w_num (w_ch (w_ch (w_kds (σ.2 0) nc (w_num (w_ch (w_num ((σ.2 13, 0) : wR) nc) 58) (o_wv (σ.2 0) nc 0)) k) 32) (w_sg k)) (o_wv (σ.2 0) nc (13 + 2 * k) + o_wv (σ.2 0) nc (13 + 2 * k + 1)) = w_kd (w_kds (σ.2 0) nc (w_num (w_ch (w_num ((σ.2 13, 0) : wR) nc) 58) (o_wv (σ.2 0) nc 0)) k) k (o_wv (σ.2 0) nc (13 + 2 * k) + o_wv (σ.2 0) nc (13 + 2 * k + 1)) (o_wv (σ.2 0) nc (13 + 2 * k + 1)); rw [w_kd, if_pos hz, if_neg hu]
                  have hubk2 : (w_kds (σ.2 0) nc (w_num (w_ch (w_num ((σ.2 13, 0) : wR) nc) 58) (o_wv (σ.2 0) nc 0)) (k + 1)).2 ≤ 18 + 11 * (k + 1) := by rw [← eM]; omega
                  rw [eM] at hM hl
                  exact ih44 (k + 1) _ _ _ _ (by omega) (by omega) (hubk2) hM hF hw (lv_sub hl [0, 1, 3, 4] rfl)
                · skip
                  have hu : 0 < (o_wv (σ.2 0) nc (13 + 2 * k + 1)) := cmp_nle (b := 0) c116 rfl rfl (by omega) (by omega)
                  refine lv_aload_n hx hb dX5_line_119 rfl (lv_at hl 3 rfl) ?_
                  refine lv_iload_n hx hb dX5_line_120 rfl (lv_at hl 0 rfl) ?_
                  refine lv_bipush (v := 63) hx hb dX5_line_121 (by decide) ?_
                  have hub_20p : (w_num (w_ch (w_ch (w_kds (σ.2 0) nc (w_num (w_ch (w_num ((σ.2 13, 0) : wR) nc) 58) (o_wv (σ.2 0) nc 0)) k) 32) (w_sg k)) (o_wv (σ.2 0) nc (13 + 2 * k) + o_wv (σ.2 0) nc (13 + 2 * k + 1))).2 ≤ 18 + 11 * k + 1 + 1 + 8 := by assumption
                  refine mo_calli (va_runV (As := [.int (nI (w_num (w_ch (w_ch (w_kds (σ.2 0) nc (w_num (w_ch (w_num ((σ.2 13, 0) : wR) nc) 58) (o_wv (σ.2 0) nc 0)) k) 32) (w_sg k)) (o_wv (σ.2 0) nc (13 + 2 * k) + o_wv (σ.2 0) nc (13 + 2 * k + 1))).2), .int 63]) (rest := []) ⟨hx, hb, hml, hown, hts⟩ (met_X5_put l G hM (w_num (w_ch (w_ch (w_kds (σ.2 0) nc (w_num (w_ch (w_num ((σ.2 13, 0) : wR) nc) 58) (o_wv (σ.2 0) nc 0)) k) 32) (w_sg k)) (o_wv (σ.2 0) nc (13 + 2 * k) + o_wv (σ.2 0) nc (13 + 2 * k + 1))).2 63 (show (w_num (w_ch (w_ch (w_kds (σ.2 0) nc (w_num (w_ch (w_num ((σ.2 13, 0) : wR) nc) 58) (o_wv (σ.2 0) nc 0)) k) 32) (w_sg k)) (o_wv (σ.2 0) nc (13 + 2 * k) + o_wv (σ.2 0) nc (13 + 2 * k + 1))).2 < 80 by omega)) (cwV 2 hts (lw_V q2926 q2928 qs82 q106 q2929) rfl rfl rfl (by decide +kernel) ⟨Nat.le_of_ble_eq_true rfl, Nat.le_of_ble_eq_true rfl⟩) (hv_preV hw pk_X5 hM.1) rfl rfl hl.1 rfl (lv_room (Nat.le_of_ble_eq_true rfl)) dX5_line_123 ⟨Nat.le_of_ble_eq_true rfl, Nat.le_of_ble_eq_true rfl⟩) hw hF (fun hh H locs hM hF hw => ?_)
                  rw [mo_nl_ch] at hM
                  have hub_20 : (w_ch (w_num (w_ch (w_ch (w_kds (σ.2 0) nc (w_num (w_ch (w_num ((σ.2 13, 0) : wR) nc) 58) (o_wv (σ.2 0) nc 0)) k) 32) (w_sg k)) (o_wv (σ.2 0) nc (13 + 2 * k) + o_wv (σ.2 0) nc (13 + 2 * k + 1))) 63).2 ≤ 18 + 11 * k + 1 + 1 + 8 + 1 := by rw [w_ch_2]; omega
                  have hM : isMod G hh o ma (mo_nl (mo_st σ 15 (m_gv (0 ≤ nI nc ∧ nI nc ≤ σ.2 0 5 - 1) 1 True 0)) (w_ch (w_num (w_ch (w_ch (w_kds (σ.2 0) nc (w_num (w_ch (w_num ((σ.2 13, 0) : wR) nc) 58) (o_wv (σ.2 0) nc 0)) k) 32) (w_sg k)) (o_wv (σ.2 0) nc (13 + 2 * k) + o_wv (σ.2 0) nc (13 + 2 * k + 1))) 63).1) := hM
                  refine lv_goto (tgt := 130) hx hb dX5_line_126 (by decide) ?_
                  refine lv_istore_n (lv' := [(2, .int (nI (w_ch (w_num (w_ch (w_ch (w_kds (σ.2 0) nc (w_num (w_ch (w_num ((σ.2 13, 0) : wR) nc) 58) (o_wv (σ.2 0) nc 0)) k) 32) (w_sg k)) (o_wv (σ.2 0) nc (13 + 2 * k) + o_wv (σ.2 0) nc (13 + 2 * k + 1))) 63).2)), (4, .int (nI (o_wv (σ.2 0) nc (13 + 2 * k) + o_wv (σ.2 0) nc (13 + 2 * k + 1)))), (3, .int (nI k)), (0, .ref o), (1, .int (nI nc))]) hx hb dX5_line_130 rfl hl (by decide) rfl (fun ls hl => ?_)
                  refine lv_iinc (v := nI (k + 1)) (lv' := [(3, .int (nI (k + 1))), (2, .int (nI (w_ch (w_num (w_ch (w_ch (w_kds (σ.2 0) nc (w_num (w_ch (w_num ((σ.2 13, 0) : wR) nc) 58) (o_wv (σ.2 0) nc 0)) k) 32) (w_sg k)) (o_wv (σ.2 0) nc (13 + 2 * k) + o_wv (σ.2 0) nc (13 + 2 * k + 1))) 63).2)), (4, .int (nI (o_wv (σ.2 0) nc (13 + 2 * k) + o_wv (σ.2 0) nc (13 + 2 * k + 1)))), (0, .ref o), (1, .int (nI nc))]) hx hb dX5_line_131 hl (k := 2) rfl (by simp only [nI, Int32.ofNat_add] <;> rfl) (by decide) rfl (fun ls hl => ?_)
                  refine lv_goto (tgt := 44) hx hb dX5_line_134 (by decide) ?_
                  have eM : w_ch (w_num (w_ch (w_ch (w_kds (σ.2 0) nc (w_num (w_ch (w_num ((σ.2 13, 0) : wR) nc) 58) (o_wv (σ.2 0) nc 0)) k) 32) (w_sg k)) (o_wv (σ.2 0) nc (13 + 2 * k) + o_wv (σ.2 0) nc (13 + 2 * k + 1))) 63 = (w_kds (σ.2 0) nc (w_num (w_ch (w_num ((σ.2 13, 0) : wR) nc) 58) (o_wv (σ.2 0) nc 0)) (k + 1)) := by show w_ch (w_num (w_ch (w_ch (w_kds (σ.2 0) nc (w_num (w_ch (w_num ((σ.2 13, 0) : wR) nc) 58) (o_wv (σ.2 0) nc 0)) k) 32) (w_sg k)) (o_wv (σ.2 0) nc (13 + 2 * k) + o_wv (σ.2 0) nc (13 + 2 * k + 1))) 63 = w_kd (w_kds (σ.2 0) nc (w_num (w_ch (w_num ((σ.2 13, 0) : wR) nc) 58) (o_wv (σ.2 0) nc 0)) k) k (o_wv (σ.2 0) nc (13 + 2 * k) + o_wv (σ.2 0) nc (13 + 2 * k + 1)) (o_wv (σ.2 0) nc (13 + 2 * k + 1)); rw [w_kd, if_pos hz, if_pos hu]
                  have hubk2 : (w_kds (σ.2 0) nc (w_num (w_ch (w_num ((σ.2 13, 0) : wR) nc) 58) (o_wv (σ.2 0) nc 0)) (k + 1)).2 ≤ 18 + 11 * (k + 1) := by rw [← eM]; omega
                  rw [eM] at hM hl
                  exact ih44 (k + 1) _ _ _ _ (by omega) (by omega) (hubk2) hM hF hw (lv_sub hl [0, 1, 3, 4] rfl)
            · skip
              refine lv_bipush (v := 116) hx hb dX5_line_81 (by decide) ?_
              refine lv_goto (tgt := 98) hx hb dX5_line_83 (by decide) ?_
              refine lv_tope (y := w_sg k) (by rw [show k = 0 from cmp_eq (b := 0) c78 rfl rfl (by omega) (by omega)]; rfl) ?_
              have hub_21p : (w_ch (w_kds (σ.2 0) nc (w_num (w_ch (w_num ((σ.2 13, 0) : wR) nc) 58) (o_wv (σ.2 0) nc 0)) k) 32).2 ≤ 18 + 11 * k + 1 := by assumption
              refine mo_calli (va_runV (As := [.int (nI (w_ch (w_kds (σ.2 0) nc (w_num (w_ch (w_num ((σ.2 13, 0) : wR) nc) 58) (o_wv (σ.2 0) nc 0)) k) 32).2), .int (w_sg k)]) (rest := []) ⟨hx, hb, hml, hown, hts⟩ (met_X5_put l G hM (w_ch (w_kds (σ.2 0) nc (w_num (w_ch (w_num ((σ.2 13, 0) : wR) nc) 58) (o_wv (σ.2 0) nc 0)) k) 32).2 (w_sg k) (show (w_ch (w_kds (σ.2 0) nc (w_num (w_ch (w_num ((σ.2 13, 0) : wR) nc) 58) (o_wv (σ.2 0) nc 0)) k) 32).2 < 80 by omega)) (cwV 2 hts (lw_V q2926 q2928 qs82 q106 q2929) rfl rfl rfl (by decide +kernel) ⟨Nat.le_of_ble_eq_true rfl, Nat.le_of_ble_eq_true rfl⟩) (hv_preV hw pk_X5 hM.1) rfl rfl hl.1 rfl (lv_room (Nat.le_of_ble_eq_true rfl)) dX5_line_98 ⟨Nat.le_of_ble_eq_true rfl, Nat.le_of_ble_eq_true rfl⟩) hw hF (fun hh H locs hM hF hw => ?_)
              rw [mo_nl_ch] at hM
              have hub_21 : (w_ch (w_ch (w_kds (σ.2 0) nc (w_num (w_ch (w_num ((σ.2 13, 0) : wR) nc) 58) (o_wv (σ.2 0) nc 0)) k) 32) (w_sg k)).2 ≤ 18 + 11 * k + 1 + 1 := by rw [w_ch_2]; omega
              have hM : isMod G hh o ma (mo_nl (mo_st σ 15 (m_gv (0 ≤ nI nc ∧ nI nc ≤ σ.2 0 5 - 1) 1 True 0)) (w_ch (w_ch (w_kds (σ.2 0) nc (w_num (w_ch (w_num ((σ.2 13, 0) : wR) nc) 58) (o_wv (σ.2 0) nc 0)) k) 32) (w_sg k)).1) := hM
              refine lv_istore_n (lv' := [(2, .int (nI (w_ch (w_ch (w_kds (σ.2 0) nc (w_num (w_ch (w_num ((σ.2 13, 0) : wR) nc) 58) (o_wv (σ.2 0) nc 0)) k) 32) (w_sg k)).2)), (4, .int (nI (o_wv (σ.2 0) nc (13 + 2 * k) + o_wv (σ.2 0) nc (13 + 2 * k + 1)))), (3, .int (nI k)), (0, .ref o), (1, .int (nI nc))]) hx hb dX5_line_101 rfl hl (by decide) rfl (fun ls hl => ?_)
              refine lv_aload_n hx hb dX5_line_102 rfl (lv_at hl 3 rfl) ?_
              refine lv_iload_n hx hb dX5_line_103 rfl (lv_at hl 0 rfl) ?_
              refine lv_iload hx hb dX5_line_104 (lv_at hl 1 rfl) ?_
              have hub_22p : (w_ch (w_ch (w_kds (σ.2 0) nc (w_num (w_ch (w_num ((σ.2 13, 0) : wR) nc) 58) (o_wv (σ.2 0) nc 0)) k) 32) (w_sg k)).2 ≤ 18 + 11 * k + 1 + 1 := by assumption
              have hub_22d : d_hi (o_wv (σ.2 0) nc (13 + 2 * k) + o_wv (σ.2 0) nc (13 + 2 * k + 1)) ≤ 7 := d_hi_7 _
              refine mo_calli (va_runV (As := [.int (nI (w_ch (w_ch (w_kds (σ.2 0) nc (w_num (w_ch (w_num ((σ.2 13, 0) : wR) nc) 58) (o_wv (σ.2 0) nc 0)) k) 32) (w_sg k)).2), .int (nI (o_wv (σ.2 0) nc (13 + 2 * k) + o_wv (σ.2 0) nc (13 + 2 * k + 1)))]) (rest := []) ⟨hx, hb, hml, hown, hts⟩ (met_X5_writesNumber l G hM (w_ch (w_ch (w_kds (σ.2 0) nc (w_num (w_ch (w_num ((σ.2 13, 0) : wR) nc) 58) (o_wv (σ.2 0) nc 0)) k) 32) (w_sg k)).2 (o_wv (σ.2 0) nc (13 + 2 * k) + o_wv (σ.2 0) nc (13 + 2 * k + 1)) (by omega) (show (w_ch (w_ch (w_kds (σ.2 0) nc (w_num (w_ch (w_num ((σ.2 13, 0) : wR) nc) 58) (o_wv (σ.2 0) nc 0)) k) 32) (w_sg k)).2 + d_hi (o_wv (σ.2 0) nc (13 + 2 * k) + o_wv (σ.2 0) nc (13 + 2 * k + 1)) + 1 ≤ 80 by omega)) (cwV 2 hts (lw_V q2922 q2924 qs81 q106 q2925) rfl rfl rfl (by decide +kernel) ⟨Nat.le_of_ble_eq_true rfl, Nat.le_of_ble_eq_true rfl⟩) (hv_preV hw pk_X5 hM.1) rfl rfl hl.1 rfl (lv_room (Nat.le_of_ble_eq_true rfl)) dX5_line_106 ⟨Nat.le_of_ble_eq_true rfl, Nat.le_of_ble_eq_true rfl⟩) hw hF (fun hh H locs hM hF hw => ?_)
              rw [mo_nl_nm] at hM
              have hub_22 : (w_num (w_ch (w_ch (w_kds (σ.2 0) nc (w_num (w_ch (w_num ((σ.2 13, 0) : wR) nc) 58) (o_wv (σ.2 0) nc 0)) k) 32) (w_sg k)) (o_wv (σ.2 0) nc (13 + 2 * k) + o_wv (σ.2 0) nc (13 + 2 * k + 1))).2 ≤ 18 + 11 * k + 1 + 1 + 8 := by rw [w_num_2]; omega
              have hM : isMod G hh o ma (mo_nl (mo_st σ 15 (m_gv (0 ≤ nI nc ∧ nI nc ≤ σ.2 0 5 - 1) 1 True 0)) (w_num (w_ch (w_ch (w_kds (σ.2 0) nc (w_num (w_ch (w_num ((σ.2 13, 0) : wR) nc) 58) (o_wv (σ.2 0) nc 0)) k) 32) (w_sg k)) (o_wv (σ.2 0) nc (13 + 2 * k) + o_wv (σ.2 0) nc (13 + 2 * k + 1))).1) := hM
              refine lv_istore_n (lv' := [(2, .int (nI (w_num (w_ch (w_ch (w_kds (σ.2 0) nc (w_num (w_ch (w_num ((σ.2 13, 0) : wR) nc) 58) (o_wv (σ.2 0) nc 0)) k) 32) (w_sg k)) (o_wv (σ.2 0) nc (13 + 2 * k) + o_wv (σ.2 0) nc (13 + 2 * k + 1))).2)), (4, .int (nI (o_wv (σ.2 0) nc (13 + 2 * k) + o_wv (σ.2 0) nc (13 + 2 * k + 1)))), (3, .int (nI k)), (0, .ref o), (1, .int (nI nc))]) hx hb dX5_line_109 rfl hl (by decide) rfl (fun ls hl => ?_)
              refine lv_aload_n hx hb dX5_line_110 rfl (lv_at hl 3 rfl) ?_
              refine lv_iload_n hx hb dX5_line_111 rfl (lv_at hl 4 rfl) ?_
              refine lv_iload_n hx hb dX5_line_112 rfl (lv_at hl 2 rfl) ?_
              refine hv_callir (va_runV (As := [.int (nI nc), .int (nI k)]) (rest := []) ⟨hx, hb, hml, hown, hts⟩ (met_X5_unproved l G hM nc k (by omega)) (cwV 2 hts (lw_V q2768 q2770 qs65 q106 q2771) rfl rfl rfl (by decide +kernel) ⟨Nat.le_of_ble_eq_true rfl, Nat.le_of_ble_eq_true rfl⟩) (hv_preV hw pk_X5 hM.1) rfl rfl hl.1 rfl (lv_room (Nat.le_of_ble_eq_true rfl)) dX5_line_113 ⟨Nat.le_of_ble_eq_true rfl, Nat.le_of_ble_eq_true rfl⟩) hw (fun H locs hw => ?_)
              have hwx_23 := hwv (13 + 2 * k + 1) (by omega)
              refine lv_tope (y := nI (o_wv (σ.2 0) nc (13 + 2 * k + 1))) (hwx_23.1) ?_
              refine lv_if_le (tgt := 129) hx hb dX5_line_116 (by decide) (fun c116 => ?_) (fun c116 => ?_)
              · skip
                have hu : ¬ 0 < (o_wv (σ.2 0) nc (13 + 2 * k + 1)) := Nat.not_lt.mpr (cmp_le (b := 0) c116 rfl rfl (by omega) (by omega))
                refine lv_iload_n hx hb dX5_line_129 rfl (lv_at hl 0 rfl) ?_
                refine lv_istore_n (lv' := [(2, .int (nI (w_num (w_ch (w_ch (w_kds (σ.2 0) nc (w_num (w_ch (w_num ((σ.2 13, 0) : wR) nc) 58) (o_wv (σ.2 0) nc 0)) k) 32) (w_sg k)) (o_wv (σ.2 0) nc (13 + 2 * k) + o_wv (σ.2 0) nc (13 + 2 * k + 1))).2)), (4, .int (nI (o_wv (σ.2 0) nc (13 + 2 * k) + o_wv (σ.2 0) nc (13 + 2 * k + 1)))), (3, .int (nI k)), (0, .ref o), (1, .int (nI nc))]) hx hb dX5_line_130 rfl hl (by decide) rfl (fun ls hl => ?_)
                refine lv_iinc (v := nI (k + 1)) (lv' := [(3, .int (nI (k + 1))), (2, .int (nI (w_num (w_ch (w_ch (w_kds (σ.2 0) nc (w_num (w_ch (w_num ((σ.2 13, 0) : wR) nc) 58) (o_wv (σ.2 0) nc 0)) k) 32) (w_sg k)) (o_wv (σ.2 0) nc (13 + 2 * k) + o_wv (σ.2 0) nc (13 + 2 * k + 1))).2)), (4, .int (nI (o_wv (σ.2 0) nc (13 + 2 * k) + o_wv (σ.2 0) nc (13 + 2 * k + 1)))), (0, .ref o), (1, .int (nI nc))]) hx hb dX5_line_131 hl (k := 2) rfl (by simp only [nI, Int32.ofNat_add] <;> rfl) (by decide) rfl (fun ls hl => ?_)
                refine lv_goto (tgt := 44) hx hb dX5_line_134 (by decide) ?_
                have eM : w_num (w_ch (w_ch (w_kds (σ.2 0) nc (w_num (w_ch (w_num ((σ.2 13, 0) : wR) nc) 58) (o_wv (σ.2 0) nc 0)) k) 32) (w_sg k)) (o_wv (σ.2 0) nc (13 + 2 * k) + o_wv (σ.2 0) nc (13 + 2 * k + 1)) = (w_kds (σ.2 0) nc (w_num (w_ch (w_num ((σ.2 13, 0) : wR) nc) 58) (o_wv (σ.2 0) nc 0)) (k + 1)) := by show w_num (w_ch (w_ch (w_kds (σ.2 0) nc (w_num (w_ch (w_num ((σ.2 13, 0) : wR) nc) 58) (o_wv (σ.2 0) nc 0)) k) 32) (w_sg k)) (o_wv (σ.2 0) nc (13 + 2 * k) + o_wv (σ.2 0) nc (13 + 2 * k + 1)) = w_kd (w_kds (σ.2 0) nc (w_num (w_ch (w_num ((σ.2 13, 0) : wR) nc) 58) (o_wv (σ.2 0) nc 0)) k) k (o_wv (σ.2 0) nc (13 + 2 * k) + o_wv (σ.2 0) nc (13 + 2 * k + 1)) (o_wv (σ.2 0) nc (13 + 2 * k + 1)); rw [w_kd, if_pos hz, if_neg hu]
                have hubk2 : (w_kds (σ.2 0) nc (w_num (w_ch (w_num ((σ.2 13, 0) : wR) nc) 58) (o_wv (σ.2 0) nc 0)) (k + 1)).2 ≤ 18 + 11 * (k + 1) := by rw [← eM]; omega
                rw [eM] at hM hl
                exact ih44 (k + 1) _ _ _ _ (by omega) (by omega) (hubk2) hM hF hw (lv_sub hl [0, 1, 3, 4] rfl)
              · skip
                have hu : 0 < (o_wv (σ.2 0) nc (13 + 2 * k + 1)) := cmp_nle (b := 0) c116 rfl rfl (by omega) (by omega)
                refine lv_aload_n hx hb dX5_line_119 rfl (lv_at hl 3 rfl) ?_
                refine lv_iload_n hx hb dX5_line_120 rfl (lv_at hl 0 rfl) ?_
                refine lv_bipush (v := 63) hx hb dX5_line_121 (by decide) ?_
                have hub_24p : (w_num (w_ch (w_ch (w_kds (σ.2 0) nc (w_num (w_ch (w_num ((σ.2 13, 0) : wR) nc) 58) (o_wv (σ.2 0) nc 0)) k) 32) (w_sg k)) (o_wv (σ.2 0) nc (13 + 2 * k) + o_wv (σ.2 0) nc (13 + 2 * k + 1))).2 ≤ 18 + 11 * k + 1 + 1 + 8 := by assumption
                refine mo_calli (va_runV (As := [.int (nI (w_num (w_ch (w_ch (w_kds (σ.2 0) nc (w_num (w_ch (w_num ((σ.2 13, 0) : wR) nc) 58) (o_wv (σ.2 0) nc 0)) k) 32) (w_sg k)) (o_wv (σ.2 0) nc (13 + 2 * k) + o_wv (σ.2 0) nc (13 + 2 * k + 1))).2), .int 63]) (rest := []) ⟨hx, hb, hml, hown, hts⟩ (met_X5_put l G hM (w_num (w_ch (w_ch (w_kds (σ.2 0) nc (w_num (w_ch (w_num ((σ.2 13, 0) : wR) nc) 58) (o_wv (σ.2 0) nc 0)) k) 32) (w_sg k)) (o_wv (σ.2 0) nc (13 + 2 * k) + o_wv (σ.2 0) nc (13 + 2 * k + 1))).2 63 (show (w_num (w_ch (w_ch (w_kds (σ.2 0) nc (w_num (w_ch (w_num ((σ.2 13, 0) : wR) nc) 58) (o_wv (σ.2 0) nc 0)) k) 32) (w_sg k)) (o_wv (σ.2 0) nc (13 + 2 * k) + o_wv (σ.2 0) nc (13 + 2 * k + 1))).2 < 80 by omega)) (cwV 2 hts (lw_V q2926 q2928 qs82 q106 q2929) rfl rfl rfl (by decide +kernel) ⟨Nat.le_of_ble_eq_true rfl, Nat.le_of_ble_eq_true rfl⟩) (hv_preV hw pk_X5 hM.1) rfl rfl hl.1 rfl (lv_room (Nat.le_of_ble_eq_true rfl)) dX5_line_123 ⟨Nat.le_of_ble_eq_true rfl, Nat.le_of_ble_eq_true rfl⟩) hw hF (fun hh H locs hM hF hw => ?_)
                rw [mo_nl_ch] at hM
                have hub_24 : (w_ch (w_num (w_ch (w_ch (w_kds (σ.2 0) nc (w_num (w_ch (w_num ((σ.2 13, 0) : wR) nc) 58) (o_wv (σ.2 0) nc 0)) k) 32) (w_sg k)) (o_wv (σ.2 0) nc (13 + 2 * k) + o_wv (σ.2 0) nc (13 + 2 * k + 1))) 63).2 ≤ 18 + 11 * k + 1 + 1 + 8 + 1 := by rw [w_ch_2]; omega
                have hM : isMod G hh o ma (mo_nl (mo_st σ 15 (m_gv (0 ≤ nI nc ∧ nI nc ≤ σ.2 0 5 - 1) 1 True 0)) (w_ch (w_num (w_ch (w_ch (w_kds (σ.2 0) nc (w_num (w_ch (w_num ((σ.2 13, 0) : wR) nc) 58) (o_wv (σ.2 0) nc 0)) k) 32) (w_sg k)) (o_wv (σ.2 0) nc (13 + 2 * k) + o_wv (σ.2 0) nc (13 + 2 * k + 1))) 63).1) := hM
                refine lv_goto (tgt := 130) hx hb dX5_line_126 (by decide) ?_
                refine lv_istore_n (lv' := [(2, .int (nI (w_ch (w_num (w_ch (w_ch (w_kds (σ.2 0) nc (w_num (w_ch (w_num ((σ.2 13, 0) : wR) nc) 58) (o_wv (σ.2 0) nc 0)) k) 32) (w_sg k)) (o_wv (σ.2 0) nc (13 + 2 * k) + o_wv (σ.2 0) nc (13 + 2 * k + 1))) 63).2)), (4, .int (nI (o_wv (σ.2 0) nc (13 + 2 * k) + o_wv (σ.2 0) nc (13 + 2 * k + 1)))), (3, .int (nI k)), (0, .ref o), (1, .int (nI nc))]) hx hb dX5_line_130 rfl hl (by decide) rfl (fun ls hl => ?_)
                refine lv_iinc (v := nI (k + 1)) (lv' := [(3, .int (nI (k + 1))), (2, .int (nI (w_ch (w_num (w_ch (w_ch (w_kds (σ.2 0) nc (w_num (w_ch (w_num ((σ.2 13, 0) : wR) nc) 58) (o_wv (σ.2 0) nc 0)) k) 32) (w_sg k)) (o_wv (σ.2 0) nc (13 + 2 * k) + o_wv (σ.2 0) nc (13 + 2 * k + 1))) 63).2)), (4, .int (nI (o_wv (σ.2 0) nc (13 + 2 * k) + o_wv (σ.2 0) nc (13 + 2 * k + 1)))), (0, .ref o), (1, .int (nI nc))]) hx hb dX5_line_131 hl (k := 2) rfl (by simp only [nI, Int32.ofNat_add] <;> rfl) (by decide) rfl (fun ls hl => ?_)
                refine lv_goto (tgt := 44) hx hb dX5_line_134 (by decide) ?_
                have eM : w_ch (w_num (w_ch (w_ch (w_kds (σ.2 0) nc (w_num (w_ch (w_num ((σ.2 13, 0) : wR) nc) 58) (o_wv (σ.2 0) nc 0)) k) 32) (w_sg k)) (o_wv (σ.2 0) nc (13 + 2 * k) + o_wv (σ.2 0) nc (13 + 2 * k + 1))) 63 = (w_kds (σ.2 0) nc (w_num (w_ch (w_num ((σ.2 13, 0) : wR) nc) 58) (o_wv (σ.2 0) nc 0)) (k + 1)) := by show w_ch (w_num (w_ch (w_ch (w_kds (σ.2 0) nc (w_num (w_ch (w_num ((σ.2 13, 0) : wR) nc) 58) (o_wv (σ.2 0) nc 0)) k) 32) (w_sg k)) (o_wv (σ.2 0) nc (13 + 2 * k) + o_wv (σ.2 0) nc (13 + 2 * k + 1))) 63 = w_kd (w_kds (σ.2 0) nc (w_num (w_ch (w_num ((σ.2 13, 0) : wR) nc) 58) (o_wv (σ.2 0) nc 0)) k) k (o_wv (σ.2 0) nc (13 + 2 * k) + o_wv (σ.2 0) nc (13 + 2 * k + 1)) (o_wv (σ.2 0) nc (13 + 2 * k + 1)); rw [w_kd, if_pos hz, if_pos hu]
                have hubk2 : (w_kds (σ.2 0) nc (w_num (w_ch (w_num ((σ.2 13, 0) : wR) nc) 58) (o_wv (σ.2 0) nc 0)) (k + 1)).2 ≤ 18 + 11 * (k + 1) := by rw [← eM]; omega
                rw [eM] at hM hl
                exact ih44 (k + 1) _ _ _ _ (by omega) (by omega) (hubk2) hM hF hw (lv_sub hl [0, 1, 3, 4] rfl)
    exact LP44 _ 0 _ _ _ _ (Nat.lt_succ_self _) (by omega) (show (w_num (w_ch (w_num ((σ.2 13, 0) : wR) nc) 58) (o_wv (σ.2 0) nc 0)).2 ≤ 18 by omega) hM hF hw (lv_sub hl [0, 1, 2, 3] rfl)
  · skip
    have c12 : ¬ ((0 ≤ c9 ∧ c9 ≤ σ.2 0 5 - 1) ∧ (True)) := b01_0.mp c12
    refine lv_iconst (v := 0) hx hb dX5_line_15 (by decide) ?_
    exact hret rfl hw ⟨(if_neg c12).symm, by rw [if_neg c12]; exact hM, hF⟩ (Nat.le_of_ble_eq_true rfl) (Nat.le_of_ble_eq_true rfl) dX5_line_16
