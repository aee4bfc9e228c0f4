set_option maxRecDepth 100000
set_option maxHeartbeats 1000000 in
theorem met_X5_rates (l : Launch) (G : hG) {h : hp} {o : Nat} {ma : Nat → Nat} {σ : MS} (hM : isMod G h o ma σ) (b : Int32) (r9 : Int32) (hok : okI (σ.2 0)) (h16 : σ.1 16 = 0) : hv_Mi l G yX5_rates (ws_ yX5_rates cX5_rates 4 (Option.some Jvm.ClassFile.FieldType.int)) ({ frames := 2, cells := 0, slots := 0, locals := 46 } : Room) [.ref o, .int b, .int r9] h (fun r hh => ∃ σ2, (m_inn σ (i_rates (σ.2 0) b r9) σ2 r) ∧ isMod G hh o ma σ2 ∧ mo_fr o ma h hh) := by
  refine hv_bi .int (Or.inl rfl) (own := RX5) (by decide +kernel) rfl (Nat.le_of_ble_eq_true rfl) (fun p e s m a below meth c ls Q hx hb hml hown hts hnm hret hw hl => ?_)
  have hl : lv_has ls 4 [(0, .ref o), (1, .int b), (2, .int r9)] := hl
  have hF : mo_fr o ma h h := mo_fr.rf
  have hmx : o_many (σ.2 0) ≤ 5 := hok.2.2.1
  have hpx : o_people (σ.2 0) ≤ 6 := hok.2.2.2.2.1
  refine lv_aload_n hx hb dX5_rates_0 rfl (lv_at hl 0 rfl) ?_
  refine lv_aload_n hx hb dX5_rates_1 rfl (lv_at hl 0 rfl) ?_
  refine lv_iload_n hx hb dX5_rates_2 rfl (lv_at hl 1 rfl) ?_
  refine hv_callir (va_runV (As := [.int b]) (rest := [.ref o]) ⟨hx, hb, hml, hown, hts⟩ (met_X5_isBracket l G hM b ) (cwV 1 hts (lw_V q2693 q2695 qs53 q106 q2696) rfl rfl rfl (by decide +kernel) ⟨Nat.le_of_ble_eq_true rfl, Nat.le_of_ble_eq_true rfl⟩) (hv_preV hw pk_X5 hM.1) rfl rfl hl.1 rfl (lv_room (Nat.le_of_ble_eq_true rfl)) dX5_rates_3 ⟨Nat.le_of_ble_eq_true rfl, Nat.le_of_ble_eq_true rfl⟩) hw (fun H locs hw => ?_)
  refine lv_mat1 (P := (b01 (0 ≤ b ∧ b ≤ σ.2 0 1 - 1)) = 0) (j := 14) (fun k1 k2 => lv_if_ne (tgt := 13) hx hb dX5_rates_6 (by decide) (fun c => lv_iconst (v := 0) hx hb dX5_rates_13 (by decide) (k2 c)) (fun c => lv_iconst (v := 1) hx hb dX5_rates_9 (by decide) (lv_goto (tgt := 14) hx hb dX5_rates_10 (by decide) (k1 c)))) ?_
  refine lv_tope (y := b01 (¬ (0 ≤ b ∧ b ≤ σ.2 0 1 - 1))) (b01_c b01_0) ?_
  refine lv_iconst (v := 2) hx hb dX5_rates_14 (by decide) ?_
  refine lv_iload_n hx hb dX5_rates_15 rfl (lv_at hl 1 rfl) ?_
  refine mo_callv (va_runV (As := [.int (b01 (¬ (0 ≤ b ∧ b ≤ σ.2 0 1 - 1))), .int 2, .int b]) (rest := []) ⟨hx, hb, hml, hown, hts⟩ (met_X5_hinders l G hM (¬ (0 ≤ b ∧ b ≤ σ.2 0 1 - 1)) 2 b ) (cwV 3 hts (lw_V q2669 q2671 qs48 q106 q2672) rfl rfl rfl (by decide +kernel) ⟨Nat.le_of_ble_eq_true rfl, Nat.le_of_ble_eq_true rfl⟩) (hv_preV hw pk_X5 hM.1) rfl rfl hl.1 rfl (lv_room (Nat.le_of_ble_eq_true rfl)) dX5_rates_16 ⟨Nat.le_of_ble_eq_true rfl, Nat.le_of_ble_eq_true rfl⟩) hw hF (fun hh H locs hM hF hw => ?_)
  by_cases hP16 : ¬ (0 ≤ b ∧ b ≤ σ.2 0 1 - 1)
  · skip
    rw [mo_hin_t hP16 h16] at hM
    have hm9 := m_ref.of σ (w := 2) (t := b) (by decide)
    refine lv_aload_n hx hb dX5_rates_19 rfl (lv_at hl 0 rfl) ?_
    refine lv_iload_n hx hb dX5_rates_20 rfl (lv_at hl 2 rfl) ?_
    refine lv_iconst (v := 0) hx hb dX5_rates_21 (by decide) ?_
    refine lv_bipush (v := 60) hx hb dX5_rates_22 (by decide) ?_
    refine mo_callv (va_runV (As := [.int r9, .int 0, .int 60]) (rest := []) ⟨hx, hb, hml, hown, hts⟩ (met_X5_hindersRange l G hM r9 0 60 ) (cwV 3 hts (lw_V q2662 q2664 qs47 q106 q2665) rfl rfl rfl (by decide +kernel) ⟨Nat.le_of_ble_eq_true rfl, Nat.le_of_ble_eq_true rfl⟩) (hv_preV hw pk_X5 hM.1) rfl rfl hl.1 rfl (lv_room (Nat.le_of_ble_eq_true rfl)) dX5_rates_24 ⟨Nat.le_of_ble_eq_true rfl, Nat.le_of_ble_eq_true rfl⟩) hw hF (fun hh H locs hM hF hw => ?_)
    rw [mo_hin_r ((by rw [hm9.1]; exact hm9.2.1))] at hM
    refine lv_aload_n hx hb dX5_rates_27 rfl (lv_at hl 0 rfl) ?_
    refine mo_get hx hb hts hown hw hM 16 (by decide) q2570 rfl (v := .int 2) rfl dX5_rates_28 ?_
    refine lv_if_ne (tgt := 42) hx hb dX5_rates_31 (by decide) (fun _ => ?_) (fun c => absurd c (by decide))
    refine lv_iconst (v := 0) hx hb dX5_rates_42 (by decide) ?_
    refine lv_istore_n (lv' := [(3, .int 0), (0, .ref o), (1, .int b), (2, .int r9)]) hx hb dX5_rates_43 rfl hl (by decide) rfl (fun ls hl => ?_)
    refine lv_aload_n hx hb dX5_rates_44 rfl (lv_at hl 1 rfl) ?_
    refine mo_get hx hb hts hown hw hM 16 (by decide) q2570 rfl (v := .int 2) rfl dX5_rates_45 ?_
    refine lv_if_ne (tgt := 65) hx hb dX5_rates_48 (by decide) (fun _ => ?_) (fun c => absurd c (by decide))
    refine lv_iload_n hx hb dX5_rates_65 rfl (lv_at hl 0 rfl) ?_
    exact hret rfl hw ⟨_, (by unfold i_rates; rw [if_pos hP16]; exact hm9 : m_inn σ (i_rates (σ.2 0) b r9) (mo_st (mo_st σ 16 2) 17 b) (0)), hM, hF⟩ (Nat.le_of_ble_eq_true rfl) (Nat.le_of_ble_eq_true rfl) dX5_rates_66
  · skip
    rw [mo_hin_f hP16] at hM
    obtain ⟨nb, hnb, rfl⟩ := o_ix (Decidable.not_not.mp hP16) (congrArg (· - 1) hok.1) (by omega)
    refine lv_aload_n hx hb dX5_rates_19 rfl (lv_at hl 0 rfl) ?_
    refine lv_iload_n hx hb dX5_rates_20 rfl (lv_at hl 2 rfl) ?_
    refine lv_iconst (v := 0) hx hb dX5_rates_21 (by decide) ?_
    refine lv_bipush (v := 60) hx hb dX5_rates_22 (by decide) ?_
    refine mo_callv (va_runV (As := [.int r9, .int 0, .int 60]) (rest := []) ⟨hx, hb, hml, hown, hts⟩ (met_X5_hindersRange l G hM r9 0 60 ) (cwV 3 hts (lw_V q2662 q2664 qs47 q106 q2665) rfl rfl rfl (by decide +kernel) ⟨Nat.le_of_ble_eq_true rfl, Nat.le_of_ble_eq_true rfl⟩) (hv_preV hw pk_X5 hM.1) rfl rfl hl.1 rfl (lv_room (Nat.le_of_ble_eq_true rfl)) dX5_rates_24 ⟨Nat.le_of_ble_eq_true rfl, Nat.le_of_ble_eq_true rfl⟩) hw hF (fun hh H locs hM hF hw => ?_)
    by_cases hP24 : ¬ (0 ≤ r9 ∧ r9 ≤ 60)
    · skip
      rw [mo_hin_t hP24 h16] at hM
      have hm9 := m_ref.of σ (w := 3) (t := r9) (by decide)
      refine lv_aload_n hx hb dX5_rates_27 rfl (lv_at hl 0 rfl) ?_
      refine mo_get hx hb hts hown hw hM 16 (by decide) q2570 rfl (v := .int 3) rfl dX5_rates_28 ?_
      refine lv_if_ne (tgt := 42) hx hb dX5_rates_31 (by decide) (fun _ => ?_) (fun c => absurd c (by decide))
      refine lv_iconst (v := 0) hx hb dX5_rates_42 (by decide) ?_
      refine lv_istore_n (lv' := [(3, .int 0), (0, .ref o), (1, .int (nI nb)), (2, .int r9)]) hx hb dX5_rates_43 rfl hl (by decide) rfl (fun ls hl => ?_)
      refine lv_aload_n hx hb dX5_rates_44 rfl (lv_at hl 1 rfl) ?_
      refine mo_get hx hb hts hown hw hM 16 (by decide) q2570 rfl (v := .int 3) rfl dX5_rates_45 ?_
      refine lv_if_ne (tgt := 65) hx hb dX5_rates_48 (by decide) (fun _ => ?_) (fun c => absurd c (by decide))
      refine lv_iload_n hx hb dX5_rates_65 rfl (lv_at hl 0 rfl) ?_
      exact hret rfl hw ⟨_, (by unfold i_rates; simp only [o_n_nI (show nb < 2 ^ 31 by omega)]; rw [if_neg hP16, if_pos hP24]; exact hm9 : m_inn σ (i_rates (σ.2 0) (nI nb) r9) (mo_st (mo_st σ 16 3) 17 r9) (0)), hM, hF⟩ (Nat.le_of_ble_eq_true rfl) (Nat.le_of_ble_eq_true rfl) dX5_rates_66
    · skip
      rw [mo_hin_f hP24] at hM
      refine lv_aload_n hx hb dX5_rates_27 rfl (lv_at hl 0 rfl) ?_
      refine mo_get hx hb hts hown hw hM 16 (by decide) q2570 rfl (v := .int (σ.1 16)) rfl dX5_rates_28 ?_
      refine lv_tope (y := 0) (h16) ?_
      refine lv_if_ne (tgt := 42) hx hb dX5_rates_31 (by decide) (fun c => absurd c (by decide)) (fun _ => ?_)
      refine lv_aload_n hx hb dX5_rates_34 rfl (lv_at hl 0 rfl) ?_
      refine lv_iload_n hx hb dX5_rates_35 rfl (lv_at hl 1 rfl) ?_
      refine hv_callir (va_runV (As := [.int (nI nb)]) (rest := []) ⟨hx, hb, hml, hown, hts⟩ (met_X5_rateOf l G hM nb (show 13 + 2 * nb + 1 < 137 by omega)) (cwV 1 hts (lw_V q2697 q2699 qs54 q106 q2700) rfl rfl rfl (by decide +kernel) ⟨Nat.le_of_ble_eq_true rfl, Nat.le_of_ble_eq_true rfl⟩) (hv_preV hw pk_X5 hM.1) rfl rfl hl.1 rfl (lv_room (Nat.le_of_ble_eq_true rfl)) dX5_rates_36 ⟨Nat.le_of_ble_eq_true rfl, Nat.le_of_ble_eq_true rfl⟩) hw (fun H locs hw => ?_)
      refine lv_goto (tgt := 43) hx hb dX5_rates_39 (by decide) ?_
      refine lv_istore_n (lv' := [(3, .int (σ.2 0 (13 + 2 * nb + 1))), (0, .ref o), (1, .int (nI nb)), (2, .int r9)]) hx hb dX5_rates_43 rfl hl (by decide) rfl (fun ls hl => ?_)
      refine lv_aload_n hx hb dX5_rates_44 rfl (lv_at hl 1 rfl) ?_
      refine mo_get hx hb hts hown hw hM 16 (by decide) q2570 rfl (v := .int (σ.1 16)) rfl dX5_rates_45 ?_
      refine lv_tope (y := 0) (h16) ?_
      refine lv_if_ne (tgt := 65) hx hb dX5_rates_48 (by decide) (fun c => absurd c (by decide)) (fun _ => ?_)
      refine lv_aload_n hx hb dX5_rates_51 rfl (lv_at hl 1 rfl) ?_
      refine mo_get hx hb hts hown hw hM 0 (by decide) q2554 rfl (v := .ref (ma 0)) rfl dX5_rates_52 ?_
      refine lv_bipush (v := 13) hx hb dX5_rates_55 (by decide) ?_
      refine lv_iconst (v := 2) hx hb dX5_rates_57 (by decide) ?_
      refine lv_iload_n hx hb dX5_rates_58 rfl (lv_at hl 2 rfl) ?_
      refine lv_imul hx hb dX5_rates_59 ?_
      refine lv_tope (y := nI (2 * nb)) (by simp only [nI, Int32.ofNat_add, Int32.ofNat_mul] <;> rfl) ?_
      refine lv_iadd hx hb dX5_rates_60 ?_
      refine lv_tope (y := nI (13 + 2 * nb)) (by simp only [nI, Int32.ofNat_add, Int32.ofNat_mul] <;> rfl) ?_
      refine lv_iconst (v := 1) hx hb dX5_rates_61 (by decide) ?_
      refine lv_iadd hx hb dX5_rates_62 ?_
      refine lv_tope (y := nI (13 + 2 * nb + 1)) (by simp only [nI, Int32.ofNat_add, Int32.ofNat_mul] <;> rfl) ?_
      refine lv_iload_n hx hb dX5_rates_63 rfl (lv_at hl 3 rfl) ?_
      refine mo_ast hx hb hw hM hF 0 rfl (j := (13 + 2 * nb + 1)) rfl (show 13 + 2 * nb + 1 < 137 by omega) dX5_rates_64 (fun hh H locs hM hF hw => ?_)
      refine lv_iload_n hx hb dX5_rates_65 rfl (lv_at hl 0 rfl) ?_
      exact hret rfl hw ⟨_, (by unfold i_rates; simp only [o_n_nI (show nb < 2 ^ 31 by omega)]; rw [if_neg hP16, if_neg hP24]; exact ⟨by simp only [mo_sa_na, mo_na_na, mo_na_2], by first | rfl | simp only [mo_sa_na, mo_na_na, mo_na_2]⟩ : m_inn σ (i_rates (σ.2 0) (nI nb) r9) (mo_sa σ 0 (13 + 2 * nb + 1) r9) (σ.2 0 (13 + 2 * nb + 1))), hM, hF⟩ (Nat.le_of_ble_eq_true rfl) (Nat.le_of_ble_eq_true rfl) dX5_rates_66
set_option maxHeartbeats 1000000 in
theorem met_X5_caps (l : Launch) (G : hG) {h : hp} {o : Nat} {ma : Nat → Nat} {σ : MS} (hM : isMod G h o ma σ) (k : Int32) (x : Int32) (hok : okI (σ.2 0)) (h16 : σ.1 16 = 0) : hv_Mi l G yX5_caps (ws_ yX5_caps cX5_caps 4 (Option.some Jvm.ClassFile.FieldType.int)) ({ frames := 2, cells := 0, slots := 0, locals := 46 } : Room) [.ref o, .int k, .int x] h (fun r hh => ∃ σ2, (m_inn σ (i_caps (σ.2 0) k x) σ2 r) ∧ isMod G hh o ma σ2 ∧ mo_fr o ma h hh) := by
  refine hv_bi .int (Or.inl rfl) (own := RX5) (by decide +kernel) rfl (Nat.le_of_ble_eq_true rfl) (fun p e s m a below meth c ls Q hx hb hml hown hts hnm hret hw hl => ?_)
  have hl : lv_has ls 4 [(0, .ref o), (1, .int k), (2, .int x)] := hl
  have hF : mo_fr o ma h h := mo_fr.rf
  have hmx : o_many (σ.2 0) ≤ 5 := hok.2.2.1
  have hpx : o_people (σ.2 0) ≤ 6 := hok.2.2.2.2.1
  refine lv_aload_n hx hb dX5_caps_0 rfl (lv_at hl 0 rfl) ?_
  refine lv_iload_n hx hb dX5_caps_1 rfl (lv_at hl 1 rfl) ?_
  refine hv_callir (va_runS (As := [.int k]) (rest := [.ref o]) ⟨hx, hb, hml, hown, hts⟩ (met_X5_isKind l G k ) (va_cwS 1 hts (lw_S q2721 q2722 q106 q2723) rfl rfl rfl (by decide +kernel) ⟨Nat.le_of_ble_eq_true rfl, Nat.le_of_ble_eq_true rfl⟩) (hv_preS hw) rfl rfl hl.1 rfl (lv_room (Nat.le_of_ble_eq_true rfl)) dX5_caps_2 ⟨Nat.le_of_ble_eq_true rfl, Nat.le_of_ble_eq_true rfl⟩) hw (fun H locs hw => ?_)
  refine lv_mat1 (P := (b01 (0 ≤ k ∧ k ≤ 2)) = 0) (j := 13) (fun k1 k2 => lv_if_ne (tgt := 12) hx hb dX5_caps_5 (by decide) (fun c => lv_iconst (v := 0) hx hb dX5_caps_12 (by decide) (k2 c)) (fun c => lv_iconst (v := 1) hx hb dX5_caps_8 (by decide) (lv_goto (tgt := 13) hx hb dX5_caps_9 (by decide) (k1 c)))) ?_
  refine lv_tope (y := b01 (¬ (0 ≤ k ∧ k ≤ 2))) (b01_c b01_0) ?_
  refine lv_iconst (v := 2) hx hb dX5_caps_13 (by decide) ?_
  refine lv_iload_n hx hb dX5_caps_14 rfl (lv_at hl 1 rfl) ?_
  refine mo_callv (va_runV (As := [.int (b01 (¬ (0 ≤ k ∧ k ≤ 2))), .int 2, .int k]) (rest := []) ⟨hx, hb, hml, hown, hts⟩ (met_X5_hinders l G hM (¬ (0 ≤ k ∧ k ≤ 2)) 2 k ) (cwV 3 hts (lw_V q2669 q2671 qs48 q106 q2672) rfl rfl rfl (by decide +kernel) ⟨Nat.le_of_ble_eq_true rfl, Nat.le_of_ble_eq_true rfl⟩) (hv_preV hw pk_X5 hM.1) rfl rfl hl.1 rfl (lv_room (Nat.le_of_ble_eq_true rfl)) dX5_caps_15 ⟨Nat.le_of_ble_eq_true rfl, Nat.le_of_ble_eq_true rfl⟩) hw hF (fun hh H locs hM hF hw => ?_)
  by_cases hP15 : ¬ (0 ≤ k ∧ k ≤ 2)
  · skip
    rw [mo_hin_t hP15 h16] at hM
    have hm9 := m_ref.of σ (w := 2) (t := k) (by decide)
    refine lv_aload_n hx hb dX5_caps_18 rfl (lv_at hl 0 rfl) ?_
    refine lv_iload_n hx hb dX5_caps_19 rfl (lv_at hl 2 rfl) ?_
    refine lv_iconst (v := 0) hx hb dX5_caps_20 (by decide) ?_
    refine lv_sipush (v := 999) hx hb dX5_caps_21 (by decide) ?_
    refine mo_callv (va_runV (As := [.int x, .int 0, .int 999]) (rest := []) ⟨hx, hb, hml, hown, hts⟩ (met_X5_hindersRange l G hM x 0 999 ) (cwV 3 hts (lw_V q2662 q2664 qs47 q106 q2665) rfl rfl rfl (by decide +kernel) ⟨Nat.le_of_ble_eq_true rfl, Nat.le_of_ble_eq_true rfl⟩) (hv_preV hw pk_X5 hM.1) rfl rfl hl.1 rfl (lv_room (Nat.le_of_ble_eq_true rfl)) dX5_caps_24 ⟨Nat.le_of_ble_eq_true rfl, Nat.le_of_ble_eq_true rfl⟩) hw hF (fun hh H locs hM hF hw => ?_)
    rw [mo_hin_r ((by rw [hm9.1]; exact hm9.2.1))] at hM
    refine lv_aload_n hx hb dX5_caps_27 rfl (lv_at hl 0 rfl) ?_
    refine mo_get hx hb hts hown hw hM 16 (by decide) q2570 rfl (v := .int 2) rfl dX5_caps_28 ?_
    refine lv_if_ne (tgt := 46) hx hb dX5_caps_31 (by decide) (fun _ => ?_) (fun c => absurd c (by decide))
    refine lv_iconst (v := 0) hx hb dX5_caps_46 (by decide) ?_
    refine lv_istore_n (lv' := [(3, .int 0), (0, .ref o), (1, .int k), (2, .int x)]) hx hb dX5_caps_47 rfl hl (by decide) rfl (fun ls hl => ?_)
    refine lv_aload_n hx hb dX5_caps_48 rfl (lv_at hl 1 rfl) ?_
    refine mo_get hx hb hts hown hw hM 16 (by decide) q2570 rfl (v := .int 2) rfl dX5_caps_49 ?_
    refine lv_if_ne (tgt := 65) hx hb dX5_caps_52 (by decide) (fun _ => ?_) (fun c => absurd c (by decide))
    refine lv_iload_n hx hb dX5_caps_65 rfl (lv_at hl 0 rfl) ?_
    exact hret rfl hw ⟨_, (by unfold i_caps; rw [if_pos hP15]; exact hm9 : m_inn σ (i_caps (σ.2 0) k x) (mo_st (mo_st σ 16 2) 17 k) (0)), hM, hF⟩ (Nat.le_of_ble_eq_true rfl) (Nat.le_of_ble_eq_true rfl) dX5_caps_66
  · skip
    rw [mo_hin_f hP15] at hM
    obtain ⟨nk, hnk, rfl⟩ := o_ix (Decidable.not_not.mp hP15) (show (2 : Int32) = nI 3 - 1 by decide) (by omega)
    refine lv_aload_n hx hb dX5_caps_18 rfl (lv_at hl 0 rfl) ?_
    refine lv_iload_n hx hb dX5_caps_19 rfl (lv_at hl 2 rfl) ?_
    refine lv_iconst (v := 0) hx hb dX5_caps_20 (by decide) ?_
    refine lv_sipush (v := 999) hx hb dX5_caps_21 (by decide) ?_
    refine mo_callv (va_runV (As := [.int x, .int 0, .int 999]) (rest := []) ⟨hx, hb, hml, hown, hts⟩ (met_X5_hindersRange l G hM x 0 999 ) (cwV 3 hts (lw_V q2662 q2664 qs47 q106 q2665) rfl rfl rfl (by decide +kernel) ⟨Nat.le_of_ble_eq_true rfl, Nat.le_of_ble_eq_true rfl⟩) (hv_preV hw pk_X5 hM.1) rfl rfl hl.1 rfl (lv_room (Nat.le_of_ble_eq_true rfl)) dX5_caps_24 ⟨Nat.le_of_ble_eq_true rfl, Nat.le_of_ble_eq_true rfl⟩) hw hF (fun hh H locs hM hF hw => ?_)
    by_cases hP24 : ¬ (0 ≤ x ∧ x ≤ 999)
    · skip
      rw [mo_hin_t hP24 h16] at hM
      have hm9 := m_ref.of σ (w := 3) (t := x) (by decide)
      refine lv_aload_n hx hb dX5_caps_27 rfl (lv_at hl 0 rfl) ?_
      refine mo_get hx hb hts hown hw hM 16 (by decide) q2570 rfl (v := .int 3) rfl dX5_caps_28 ?_
      refine lv_if_ne (tgt := 46) hx hb dX5_caps_31 (by decide) (fun _ => ?_) (fun c => absurd c (by decide))
      refine lv_iconst (v := 0) hx hb dX5_caps_46 (by decide) ?_
      refine lv_istore_n (lv' := [(3, .int 0), (0, .ref o), (1, .int (nI nk)), (2, .int x)]) hx hb dX5_caps_47 rfl hl (by decide) rfl (fun ls hl => ?_)
      refine lv_aload_n hx hb dX5_caps_48 rfl (lv_at hl 1 rfl) ?_
      refine mo_get hx hb hts hown hw hM 16 (by decide) q2570 rfl (v := .int 3) rfl dX5_caps_49 ?_
      refine lv_if_ne (tgt := 65) hx hb dX5_caps_52 (by decide) (fun _ => ?_) (fun c => absurd c (by decide))
      refine lv_iload_n hx hb dX5_caps_65 rfl (lv_at hl 0 rfl) ?_
      exact hret rfl hw ⟨_, (by unfold i_caps; simp only [o_n_nI (show nk < 2 ^ 31 by omega)]; rw [if_neg hP15, if_pos hP24]; exact hm9 : m_inn σ (i_caps (σ.2 0) (nI nk) x) (mo_st (mo_st σ 16 3) 17 x) (0)), hM, hF⟩ (Nat.le_of_ble_eq_true rfl) (Nat.le_of_ble_eq_true rfl) dX5_caps_66
    · skip
      rw [mo_hin_f hP24] at hM
      refine lv_aload_n hx hb dX5_caps_27 rfl (lv_at hl 0 rfl) ?_
      refine mo_get hx hb hts hown hw hM 16 (by decide) q2570 rfl (v := .int (σ.1 16)) rfl dX5_caps_28 ?_
      refine lv_tope (y := 0) (h16) ?_
      refine lv_if_ne (tgt := 46) hx hb dX5_caps_31 (by decide) (fun c => absurd c (by decide)) (fun _ => ?_)
      refine lv_aload_n hx hb dX5_caps_34 rfl (lv_at hl 0 rfl) ?_
      refine mo_get hx hb hts hown hw hM 0 (by decide) q2554 rfl (v := .ref (ma 0)) rfl dX5_caps_35 ?_
      refine lv_bipush (v := 10) hx hb dX5_caps_38 (by decide) ?_
      refine lv_iload_n hx hb dX5_caps_40 rfl (lv_at hl 1 rfl) ?_
      refine lv_iadd hx hb dX5_caps_41 ?_
      refine lv_tope (y := nI (10 + nk)) (by simp only [nI, Int32.ofNat_add, Int32.ofNat_mul] <;> rfl) ?_
      refine mo_ald hx hb hw hM 0 rfl (j := (10 + nk)) rfl (show 10 + nk < 137 by omega) dX5_caps_42 ?_
      refine lv_goto (tgt := 47) hx hb dX5_caps_43 (by decide) ?_
      refine lv_istore_n (lv' := [(3, .int (σ.2 0 (10 + nk))), (0, .ref o), (1, .int (nI nk)), (2, .int x)]) hx hb dX5_caps_47 rfl hl (by decide) rfl (fun ls hl => ?_)
      refine lv_aload_n hx hb dX5_caps_48 rfl (lv_at hl 1 rfl) ?_
      refine mo_get hx hb hts hown hw hM 16 (by decide) q2570 rfl (v := .int (σ.1 16)) rfl dX5_caps_49 ?_
      refine lv_tope (y := 0) (h16) ?_
      refine lv_if_ne (tgt := 65) hx hb dX5_caps_52 (by decide) (fun c => absurd c (by decide)) (fun _ => ?_)
      refine lv_aload_n hx hb dX5_caps_55 rfl (lv_at hl 1 rfl) ?_
      refine mo_get hx hb hts hown hw hM 0 (by decide) q2554 rfl (v := .ref (ma 0)) rfl dX5_caps_56 ?_
      refine lv_bipush (v := 10) hx hb dX5_caps_59 (by decide) ?_
      refine lv_iload_n hx hb dX5_caps_61 rfl (lv_at hl 2 rfl) ?_
      refine lv_iadd hx hb dX5_caps_62 ?_
      refine lv_tope (y := nI (10 + nk)) (by simp only [nI, Int32.ofNat_add, Int32.ofNat_mul] <;> rfl) ?_
      refine lv_iload_n hx hb dX5_caps_63 rfl (lv_at hl 3 rfl) ?_
      refine mo_ast hx hb hw hM hF 0 rfl (j := (10 + nk)) rfl (show 10 + nk < 137 by omega) dX5_caps_64 (fun hh H locs hM hF hw => ?_)
      refine lv_iload_n hx hb dX5_caps_65 rfl (lv_at hl 0 rfl) ?_
      exact hret rfl hw ⟨_, (by unfold i_caps; simp only [o_n_nI (show nk < 2 ^ 31 by omega)]; rw [if_neg hP15, if_neg hP24]; exact ⟨by simp only [mo_sa_na, mo_na_na, mo_na_2], by first | rfl | simp only [mo_sa_na, mo_na_na, mo_na_2]⟩ : m_inn σ (i_caps (σ.2 0) (nI nk) x) (mo_sa σ 0 (10 + nk) x) (σ.2 0 (10 + nk))), hM, hF⟩ (Nat.le_of_ble_eq_true rfl) (Nat.le_of_ble_eq_true rfl) dX5_caps_66
set_option maxHeartbeats 1000000 in
theorem met_X5_earns (l : Launch) (G : hG) {h : hp} {o : Nat} {ma : Nat → Nat} {σ : MS} (hM : isMod G h o ma σ) (c9 : Int32) (x : Int32) (hok : okI (σ.2 0)) (h16 : σ.1 16 = 0) : hv_Mi l G yX5_earns (ws_ yX5_earns cX5_earns 4 (Option.some Jvm.ClassFile.FieldType.int)) ({ frames := 2, cells := 0, slots := 0, locals := 46 } : Room) [.ref o, .int c9, .int x] h (fun r hh => ∃ σ2, (m_inn σ (i_earns (σ.2 0) c9 x) σ2 r) ∧ isMod G hh o ma σ2 ∧ mo_fr o ma h hh) := by
  refine hv_bi .int (Or.inl rfl) (own := RX5) (by decide +kernel) rfl (Nat.le_of_ble_eq_true rfl) (fun p e s m a below meth c ls Q hx hb hml hown hts hnm hret hw hl => ?_)
  have hl : lv_has ls 4 [(0, .ref o), (1, .int c9), (2, .int x)] := hl
  have hF : mo_fr o ma h h := mo_fr.rf
  have hmx : o_many (σ.2 0) ≤ 5 := hok.2.2.1
  have hpx : o_people (σ.2 0) ≤ 6 := hok.2.2.2.2.1
  refine lv_aload_n hx hb dX5_earns_0 rfl (lv_at hl 0 rfl) ?_
  refine lv_aload_n hx hb dX5_earns_1 rfl (lv_at hl 0 rfl) ?_
  refine lv_iload_n hx hb dX5_earns_2 rfl (lv_at hl 1 rfl) ?_
  refine hv_callir (va_runV (As := [.int c9]) (rest := [.ref o]) ⟨hx, hb, hml, hown, hts⟩ (met_X5_isCitizen l G hM c9 ) (cwV 1 hts (lw_V q2736 q2738 qs58 q106 q2739) rfl rfl rfl (by decide +kernel) ⟨Nat.le_of_ble_eq_true rfl, Nat.le_of_ble_eq_true rfl⟩) (hv_preV hw pk_X5 hM.1) rfl rfl hl.1 rfl (lv_room (Nat.le_of_ble_eq_true rfl)) dX5_earns_3 ⟨Nat.le_of_ble_eq_true rfl, Nat.le_of_ble_eq_true rfl⟩) hw (fun H locs hw => ?_)
  refine lv_mat1 (P := (b01 (0 ≤ c9 ∧ c9 ≤ σ.2 0 5 - 1)) = 0) (j := 14) (fun k1 k2 => lv_if_ne (tgt := 13) hx hb dX5_earns_6 (by decide) (fun c => lv_iconst (v := 0) hx hb dX5_earns_13 (by decide) (k2 c)) (fun c => lv_iconst (v := 1) hx hb dX5_earns_9 (by decide) (lv_goto (tgt := 14) hx hb dX5_earns_10 (by decide) (k1 c)))) ?_
  refine lv_tope (y := b01 (¬ (0 ≤ c9 ∧ c9 ≤ σ.2 0 5 - 1))) (b01_c b01_0) ?_
  refine lv_iconst (v := 2) hx hb dX5_earns_14 (by decide) ?_
  refine lv_iload_n hx hb dX5_earns_15 rfl (lv_at hl 1 rfl) ?_
  refine mo_callv (va_runV (As := [.int (b01 (¬ (0 ≤ c9 ∧ c9 ≤ σ.2 0 5 - 1))), .int 2, .int c9]) (rest := []) ⟨hx, hb, hml, hown, hts⟩ (met_X5_hinders l G hM (¬ (0 ≤ c9 ∧ c9 ≤ σ.2 0 5 - 1)) 2 c9 ) (cwV 3 hts (lw_V q2669 q2671 qs48 q106 q2672) rfl rfl rfl (by decide +kernel) ⟨Nat.le_of_ble_eq_true rfl, Nat.le_of_ble_eq_true rfl⟩) (hv_preV hw pk_X5 hM.1) rfl rfl hl.1 rfl (lv_room (Nat.le_of_ble_eq_true rfl)) dX5_earns_16 ⟨Nat.le_of_ble_eq_true rfl, Nat.le_of_ble_eq_true rfl⟩) hw hF (fun hh H locs hM hF hw => ?_)
  by_cases hP16 : ¬ (0 ≤ c9 ∧ c9 ≤ σ.2 0 5 - 1)
  · skip
    rw [mo_hin_t hP16 h16] at hM
    have hm9 := m_ref.of σ (w := 2) (t := c9) (by decide)
    refine lv_aload_n hx hb dX5_earns_19 rfl (lv_at hl 0 rfl) ?_
    refine lv_iload_n hx hb dX5_earns_20 rfl (lv_at hl 2 rfl) ?_
    refine lv_iconst (v := 1) hx hb dX5_earns_21 (by decide) ?_
    refine lv_sipush (v := 9999) hx hb dX5_earns_22 (by decide) ?_
    refine mo_callv (va_runV (As := [.int x, .int 1, .int 9999]) (rest := []) ⟨hx, hb, hml, hown, hts⟩ (met_X5_hindersRange l G hM x 1 9999 ) (cwV 3 hts (lw_V q2662 q2664 qs47 q106 q2665) rfl rfl rfl (by decide +kernel) ⟨Nat.le_of_ble_eq_true rfl, Nat.le_of_ble_eq_true rfl⟩) (hv_preV hw pk_X5 hM.1) rfl rfl hl.1 rfl (lv_room (Nat.le_of_ble_eq_true rfl)) dX5_earns_25 ⟨Nat.le_of_ble_eq_true rfl, Nat.le_of_ble_eq_true rfl⟩) hw hF (fun hh H locs hM hF hw => ?_)
    rw [mo_hin_r ((by rw [hm9.1]; exact hm9.2.1))] at hM
    refine lv_aload_n hx hb dX5_earns_28 rfl (lv_at hl 0 rfl) ?_
    refine mo_get hx hb hts hown hw hM 16 (by decide) q2570 rfl (v := .int 2) rfl dX5_earns_29 ?_
    refine lv_if_ne (tgt := 46) hx hb dX5_earns_32 (by decide) (fun _ => ?_) (fun c => absurd c (by decide))
    refine lv_iconst (v := 0) hx hb dX5_earns_46 (by decide) ?_
    refine lv_istore_n (lv' := [(3, .int 0), (0, .ref o), (1, .int c9), (2, .int x)]) hx hb dX5_earns_47 rfl hl (by decide) rfl (fun ls hl => ?_)
    refine lv_aload_n hx hb dX5_earns_48 rfl (lv_at hl 1 rfl) ?_
    refine lv_iload_n hx hb dX5_earns_49 rfl (lv_at hl 0 rfl) ?_
    refine lv_sipush (v := 9999) hx hb dX5_earns_50 (by decide) ?_
    refine lv_mat0 (P := 0 ≤ 9999) (j := 61) (fun k1 k2 => lv_icmp_le (tgt := 60) hx hb dX5_earns_53 (by decide) (fun c => lv_iconst (v := 0) hx hb dX5_earns_60 (by decide) (k1 c)) (fun c => lv_iconst (v := 1) hx hb dX5_earns_56 (by decide) (lv_goto (tgt := 61) hx hb dX5_earns_57 (by decide) (k2 c)))) ?_
    refine lv_bipush (v := 6) hx hb dX5_earns_61 (by decide) ?_
    refine lv_iload_n hx hb dX5_earns_63 rfl (lv_at hl 0 rfl) ?_
    refine lv_sipush (v := 9999) hx hb dX5_earns_64 (by decide) ?_
    refine lv_isub hx hb dX5_earns_67 ?_
    refine mo_callv (va_runV (As := [.int (b01 (¬ (0 ≤ 9999))), .int 6, .int (0 - 9999)]) (rest := []) ⟨hx, hb, hml, hown, hts⟩ (met_X5_hinders l G hM (¬ (0 ≤ 9999)) 6 (0 - 9999) ) (cwV 3 hts (lw_V q2669 q2671 qs48 q106 q2672) rfl rfl rfl (by decide +kernel) ⟨Nat.le_of_ble_eq_true rfl, Nat.le_of_ble_eq_true rfl⟩) (hv_preV hw pk_X5 hM.1) rfl rfl hl.1 rfl (lv_room (Nat.le_of_ble_eq_true rfl)) dX5_earns_68 ⟨Nat.le_of_ble_eq_true rfl, Nat.le_of_ble_eq_true rfl⟩) hw hF (fun hh H locs hM hF hw => ?_)
    rw [mo_hin_r ((by rw [hm9.1]; exact hm9.2.1))] at hM
    refine lv_aload_n hx hb dX5_earns_71 rfl (lv_at hl 1 rfl) ?_
    refine mo_get hx hb hts hown hw hM 16 (by decide) q2570 rfl (v := .int 2) rfl dX5_earns_72 ?_
    refine lv_if_ne (tgt := 103) hx hb dX5_earns_75 (by decide) (fun _ => ?_) (fun c => absurd c (by decide))
    refine lv_iload_n hx hb dX5_earns_103 rfl (lv_at hl 0 rfl) ?_
    exact hret rfl hw ⟨_, (by unfold i_earns o_at; rw [if_pos hP16]; exact hm9 : m_inn σ (i_earns (σ.2 0) c9 x) (mo_st (mo_st σ 16 2) 17 c9) (0)), hM, hF⟩ (Nat.le_of_ble_eq_true rfl) (Nat.le_of_ble_eq_true rfl) dX5_earns_104
  · skip
    rw [mo_hin_f hP16] at hM
    obtain ⟨nc, hnc, rfl⟩ := o_ix (Decidable.not_not.mp hP16) (congrArg (· - 1) hok.2.2.2.1) (by omega)
    refine lv_aload_n hx hb dX5_earns_19 rfl (lv_at hl 0 rfl) ?_
    refine lv_iload_n hx hb dX5_earns_20 rfl (lv_at hl 2 rfl) ?_
    refine lv_iconst (v := 1) hx hb dX5_earns_21 (by decide) ?_
    refine lv_sipush (v := 9999) hx hb dX5_earns_22 (by decide) ?_
    refine mo_callv (va_runV (As := [.int x, .int 1, .int 9999]) (rest := []) ⟨hx, hb, hml, hown, hts⟩ (met_X5_hindersRange l G hM x 1 9999 ) (cwV 3 hts (lw_V q2662 q2664 qs47 q106 q2665) rfl rfl rfl (by decide +kernel) ⟨Nat.le_of_ble_eq_true rfl, Nat.le_of_ble_eq_true rfl⟩) (hv_preV hw pk_X5 hM.1) rfl rfl hl.1 rfl (lv_room (Nat.le_of_ble_eq_true rfl)) dX5_earns_25 ⟨Nat.le_of_ble_eq_true rfl, Nat.le_of_ble_eq_true rfl⟩) hw hF (fun hh H locs hM hF hw => ?_)
    by_cases hP25 : ¬ (1 ≤ x ∧ x ≤ 9999)
    · skip
      rw [mo_hin_t hP25 h16] at hM
      have hm9 := m_ref.of σ (w := 3) (t := x) (by decide)
      refine lv_aload_n hx hb dX5_earns_28 rfl (lv_at hl 0 rfl) ?_
      refine mo_get hx hb hts hown hw hM 16 (by decide) q2570 rfl (v := .int 3) rfl dX5_earns_29 ?_
      refine lv_if_ne (tgt := 46) hx hb dX5_earns_32 (by decide) (fun _ => ?_) (fun c => absurd c (by decide))
      refine lv_iconst (v := 0) hx hb dX5_earns_46 (by decide) ?_
      refine lv_istore_n (lv' := [(3, .int 0), (0, .ref o), (1, .int (nI nc)), (2, .int x)]) hx hb dX5_earns_47 rfl hl (by decide) rfl (fun ls hl => ?_)
      refine lv_aload_n hx hb dX5_earns_48 rfl (lv_at hl 1 rfl) ?_
      refine lv_iload_n hx hb dX5_earns_49 rfl (lv_at hl 0 rfl) ?_
      refine lv_sipush (v := 9999) hx hb dX5_earns_50 (by decide) ?_
      refine lv_mat0 (P := 0 ≤ 9999) (j := 61) (fun k1 k2 => lv_icmp_le (tgt := 60) hx hb dX5_earns_53 (by decide) (fun c => lv_iconst (v := 0) hx hb dX5_earns_60 (by decide) (k1 c)) (fun c => lv_iconst (v := 1) hx hb dX5_earns_56 (by decide) (lv_goto (tgt := 61) hx hb dX5_earns_57 (by decide) (k2 c)))) ?_
      refine lv_bipush (v := 6) hx hb dX5_earns_61 (by decide) ?_
      refine lv_iload_n hx hb dX5_earns_63 rfl (lv_at hl 0 rfl) ?_
      refine lv_sipush (v := 9999) hx hb dX5_earns_64 (by decide) ?_
      refine lv_isub hx hb dX5_earns_67 ?_
      refine mo_callv (va_runV (As := [.int (b01 (¬ (0 ≤ 9999))), .int 6, .int (0 - 9999)]) (rest := []) ⟨hx, hb, hml, hown, hts⟩ (met_X5_hinders l G hM (¬ (0 ≤ 9999)) 6 (0 - 9999) ) (cwV 3 hts (lw_V q2669 q2671 qs48 q106 q2672) rfl rfl rfl (by decide +kernel) ⟨Nat.le_of_ble_eq_true rfl, Nat.le_of_ble_eq_true rfl⟩) (hv_preV hw pk_X5 hM.1) rfl rfl hl.1 rfl (lv_room (Nat.le_of_ble_eq_true rfl)) dX5_earns_68 ⟨Nat.le_of_ble_eq_true rfl, Nat.le_of_ble_eq_true rfl⟩) hw hF (fun hh H locs hM hF hw => ?_)
      rw [mo_hin_r ((by rw [hm9.1]; exact hm9.2.1))] at hM
      refine lv_aload_n hx hb dX5_earns_71 rfl (lv_at hl 1 rfl) ?_
      refine mo_get hx hb hts hown hw hM 16 (by decide) q2570 rfl (v := .int 3) rfl dX5_earns_72 ?_
      refine lv_if_ne (tgt := 103) hx hb dX5_earns_75 (by decide) (fun _ => ?_) (fun c => absurd c (by decide))
      refine lv_iload_n hx hb dX5_earns_103 rfl (lv_at hl 0 rfl) ?_
      exact hret rfl hw ⟨_, (by unfold i_earns o_at; simp only [o_n_nI (show nc < 2 ^ 31 by omega)]; rw [if_neg hP16, if_pos hP25]; exact hm9 : m_inn σ (i_earns (σ.2 0) (nI nc) x) (mo_st (mo_st σ 16 3) 17 x) (0)), hM, hF⟩ (Nat.le_of_ble_eq_true rfl) (Nat.le_of_ble_eq_true rfl) dX5_earns_104
    · skip
      rw [mo_hin_f hP25] at hM
      refine lv_aload_n hx hb dX5_earns_28 rfl (lv_at hl 0 rfl) ?_
      refine mo_get hx hb hts hown hw hM 16 (by decide) q2570 rfl (v := .int (σ.1 16)) rfl dX5_earns_29 ?_
      refine lv_tope (y := 0) (h16) ?_
      refine lv_if_ne (tgt := 46) hx hb dX5_earns_32 (by decide) (fun c => absurd c (by decide)) (fun _ => ?_)
      refine lv_aload_n hx hb dX5_earns_35 rfl (lv_at hl 0 rfl) ?_
      refine lv_iload_n hx hb dX5_earns_36 rfl (lv_at hl 1 rfl) ?_
      refine lv_iconst (v := 0) hx hb dX5_earns_37 (by decide) ?_
      refine hv_callir (va_runV (As := [.int (nI nc), .int 0]) (rest := []) ⟨hx, hb, hml, hown, hts⟩ (met_X5_of l G hM nc 0 (show 23 + 19 * nc + 0 < 137 by omega)) (cwV 2 hts (lw_V q2740 q2742 qs59 q106 q2743) rfl rfl rfl (by decide +kernel) ⟨Nat.le_of_ble_eq_true rfl, Nat.le_of_ble_eq_true rfl⟩) (hv_preV hw pk_X5 hM.1) rfl rfl hl.1 rfl (lv_room (Nat.le_of_ble_eq_true rfl)) dX5_earns_38 ⟨Nat.le_of_ble_eq_true rfl, Nat.le_of_ble_eq_true rfl⟩) hw (fun H locs hw => ?_)
      refine lv_iload_n hx hb dX5_earns_41 rfl (lv_at hl 2 rfl) ?_
      refine lv_iadd hx hb dX5_earns_42 ?_
      refine lv_goto (tgt := 47) hx hb dX5_earns_43 (by decide) ?_
      refine lv_istore_n (lv' := [(3, .int ((σ.2 0 (23 + 19 * nc + 0)) + x)), (0, .ref o), (1, .int (nI nc)), (2, .int x)]) hx hb dX5_earns_47 rfl hl (by decide) rfl (fun ls hl => ?_)
      refine lv_aload_n hx hb dX5_earns_48 rfl (lv_at hl 1 rfl) ?_
      refine lv_iload_n hx hb dX5_earns_49 rfl (lv_at hl 0 rfl) ?_
      refine lv_sipush (v := 9999) hx hb dX5_earns_50 (by decide) ?_
      refine lv_mat0 (P := ((σ.2 0 (23 + 19 * nc + 0)) + x) ≤ 9999) (j := 61) (fun k1 k2 => lv_icmp_le (tgt := 60) hx hb dX5_earns_53 (by decide) (fun c => lv_iconst (v := 0) hx hb dX5_earns_60 (by decide) (k1 c)) (fun c => lv_iconst (v := 1) hx hb dX5_earns_56 (by decide) (lv_goto (tgt := 61) hx hb dX5_earns_57 (by decide) (k2 c)))) ?_
      refine lv_bipush (v := 6) hx hb dX5_earns_61 (by decide) ?_
      refine lv_iload_n hx hb dX5_earns_63 rfl (lv_at hl 0 rfl) ?_
      refine lv_sipush (v := 9999) hx hb dX5_earns_64 (by decide) ?_
      refine lv_isub hx hb dX5_earns_67 ?_
      refine mo_callv (va_runV (As := [.int (b01 (¬ (((σ.2 0 (23 + 19 * nc + 0)) + x) ≤ 9999))), .int 6, .int (((σ.2 0 (23 + 19 * nc + 0)) + x) - 9999)]) (rest := []) ⟨hx, hb, hml, hown, hts⟩ (met_X5_hinders l G hM (¬ (((σ.2 0 (23 + 19 * nc + 0)) + x) ≤ 9999)) 6 (((σ.2 0 (23 + 19 * nc + 0)) + x) - 9999) ) (cwV 3 hts (lw_V q2669 q2671 qs48 q106 q2672) rfl rfl rfl (by decide +kernel) ⟨Nat.le_of_ble_eq_true rfl, Nat.le_of_ble_eq_true rfl⟩) (hv_preV hw pk_X5 hM.1) rfl rfl hl.1 rfl (lv_room (Nat.le_of_ble_eq_true rfl)) dX5_earns_68 ⟨Nat.le_of_ble_eq_true rfl, Nat.le_of_ble_eq_true rfl⟩) hw hF (fun hh H locs hM hF hw => ?_)
      by_cases hP68 : ¬ (((σ.2 0 (23 + 19 * nc + 0)) + x) ≤ 9999)
      · skip
        rw [mo_hin_t hP68 h16] at hM
        have hm9 := m_ref.of σ (w := 6) (t := (((σ.2 0 (23 + 19 * nc + 0)) + x) - 9999)) (by decide)
        refine lv_aload_n hx hb dX5_earns_71 rfl (lv_at hl 1 rfl) ?_
        refine mo_get hx hb hts hown hw hM 16 (by decide) q2570 rfl (v := .int 6) rfl dX5_earns_72 ?_
        refine lv_if_ne (tgt := 103) hx hb dX5_earns_75 (by decide) (fun _ => ?_) (fun c => absurd c (by decide))
        refine lv_iload_n hx hb dX5_earns_103 rfl (lv_at hl 0 rfl) ?_
        exact hret rfl hw ⟨_, (by unfold i_earns o_at; simp only [o_n_nI (show nc < 2 ^ 31 by omega)]; rw [if_neg hP16, if_neg hP25, if_pos hP68]; exact hm9 : m_inn σ (i_earns (σ.2 0) (nI nc) x) (mo_st (mo_st σ 16 6) 17 (((σ.2 0 (23 + 19 * nc + 0)) + x) - 9999)) ((σ.2 0 (23 + 19 * nc + 0)) + x)), hM, hF⟩ (Nat.le_of_ble_eq_true rfl) (Nat.le_of_ble_eq_true rfl) dX5_earns_104
      · skip
        rw [mo_hin_f hP68] at hM
        refine lv_aload_n hx hb dX5_earns_71 rfl (lv_at hl 1 rfl) ?_
        refine mo_get hx hb hts hown hw hM 16 (by decide) q2570 rfl (v := .int (σ.1 16)) rfl dX5_earns_72 ?_
        refine lv_tope (y := 0) (h16) ?_
        refine lv_if_ne (tgt := 103) hx hb dX5_earns_75 (by decide) (fun c => absurd c (by decide)) (fun _ => ?_)
        refine lv_aload_n hx hb dX5_earns_78 rfl (lv_at hl 1 rfl) ?_
        refine lv_iload_n hx hb dX5_earns_79 rfl (lv_at hl 2 rfl) ?_
        refine lv_iconst (v := 0) hx hb dX5_earns_80 (by decide) ?_
        refine lv_iload_n hx hb dX5_earns_81 rfl (lv_at hl 0 rfl) ?_
        refine mo_callv (va_runV (As := [.int (nI nc), .int 0, .int ((σ.2 0 (23 + 19 * nc + 0)) + x)]) (rest := []) ⟨hx, hb, hml, hown, hts⟩ (met_X5_becomes l G hM nc 0 ((σ.2 0 (23 + 19 * nc + 0)) + x) (show 23 + 19 * nc + 0 < 137 by omega)) (cwV 3 hts (lw_V q2744 q2746 qs60 q106 q2747) rfl rfl rfl (by decide +kernel) ⟨Nat.le_of_ble_eq_true rfl, Nat.le_of_ble_eq_true rfl⟩) (hv_preV hw pk_X5 hM.1) rfl rfl hl.1 rfl (lv_room (Nat.le_of_ble_eq_true rfl)) dX5_earns_82 ⟨Nat.le_of_ble_eq_true rfl, Nat.le_of_ble_eq_true rfl⟩) hw hF (fun hh H locs hM hF hw => ?_)
        refine lv_aload_n hx hb dX5_earns_85 rfl (lv_at hl 1 rfl) ?_
        refine lv_iload_n hx hb dX5_earns_86 rfl (lv_at hl 2 rfl) ?_
        refine lv_iconst (v := 1) hx hb dX5_earns_87 (by decide) ?_
        refine lv_iload_n hx hb dX5_earns_88 rfl (lv_at hl 3 rfl) ?_
        refine mo_callv (va_runV (As := [.int (nI nc), .int 1, .int x]) (rest := []) ⟨hx, hb, hml, hown, hts⟩ (met_X5_gets l G hM nc 1 x (show 23 + 19 * nc + 1 < 137 by omega) (σ.2 0 (23 + 19 * nc + 1)) (mo_sa_ne (show 23 + 19 * nc + 1 ≠ (23 + 19 * nc + 0) by omega))) (cwV 3 hts (lw_V q2748 q2750 qs61 q106 q2751) rfl rfl rfl (by decide +kernel) ⟨Nat.le_of_ble_eq_true rfl, Nat.le_of_ble_eq_true rfl⟩) (hv_preV hw pk_X5 hM.1) rfl rfl hl.1 rfl (lv_room (Nat.le_of_ble_eq_true rfl)) dX5_earns_89 ⟨Nat.le_of_ble_eq_true rfl, Nat.le_of_ble_eq_true rfl⟩) hw hF (fun hh H locs hM hF hw => ?_)
        refine lv_aload_n hx hb dX5_earns_92 rfl (lv_at hl 1 rfl) ?_
        refine mo_get hx hb hts hown hw hM 0 (by decide) q2554 rfl (v := .ref (ma 0)) rfl dX5_earns_93 ?_
        refine lv_bipush (v := 8) hx hb dX5_earns_96 (by decide) ?_
        refine lv_dup2_11 hx hb dX5_earns_98 rfl rfl ?_
        refine mo_ald hx hb hw hM 0 rfl (j := 8) rfl (show 8 < 137 by omega) dX5_earns_99 ?_
        refine lv_tope (y := σ.2 0 8) (((mo_sa_ne (show 8 ≠ (23 + 19 * nc + 1) by omega)).trans (mo_sa_ne (show 8 ≠ (23 + 19 * nc + 0) by omega)))) ?_
        refine lv_iload_n hx hb dX5_earns_100 rfl (lv_at hl 3 rfl) ?_
        refine lv_iadd hx hb dX5_earns_101 ?_
        refine mo_ast hx hb hw hM hF 0 rfl (j := 8) rfl (show 8 < 137 by omega) dX5_earns_102 (fun hh H locs hM hF hw => ?_)
        refine lv_iload_n hx hb dX5_earns_103 rfl (lv_at hl 0 rfl) ?_
        exact hret rfl hw ⟨_, (by unfold i_earns o_at; simp only [o_n_nI (show nc < 2 ^ 31 by omega)]; rw [if_neg hP16, if_neg hP25, if_neg hP68]; exact ⟨by simp only [mo_sa_na, mo_na_na, mo_na_2], by first | rfl | simp only [mo_sa_na, mo_na_na, mo_na_2]⟩ : m_inn σ (i_earns (σ.2 0) (nI nc) x) (mo_sa (mo_sa (mo_sa σ 0 (23 + 19 * nc + 0) ((σ.2 0 (23 + 19 * nc + 0)) + x)) 0 (23 + 19 * nc + 1) (σ.2 0 (23 + 19 * nc + 1) + x)) 0 8 ((σ.2 0 8) + x)) ((σ.2 0 (23 + 19 * nc + 0)) + x)), hM, hF⟩ (Nat.le_of_ble_eq_true rfl) (Nat.le_of_ble_eq_true rfl) dX5_earns_104
set_option maxHeartbeats 1000000 in
theorem met_X5_proves (l : Launch) (G : hG) {h : hp} {o : Nat} {ma : Nat → Nat} {σ : MS} (hM : isMod G h o ma σ) (c9 : Int32) (k : Int32) (hok : okI (σ.2 0)) (h16 : σ.1 16 = 0) : hv_Mi l G yX5_proves (ws_ yX5_proves cX5_proves 4 (Option.some Jvm.ClassFile.FieldType.int)) ({ frames := 2, cells := 0, slots := 0, locals := 44 } : Room) [.ref o, .int c9, .int k] h (fun r hh => ∃ σ2, (m_inn σ (i_proves (σ.2 0) c9 k) σ2 r) ∧ isMod G hh o ma σ2 ∧ mo_fr o ma h hh) := by
  refine hv_bi .int (Or.inl rfl) (own := RX5) (by decide +kernel) rfl (Nat.le_of_ble_eq_true rfl) (fun p e s m a below meth c ls Q hx hb hml hown hts hnm hret hw hl => ?_)
  have hl : lv_has ls 4 [(0, .ref o), (1, .int c9), (2, .int k)] := hl
  have hF : mo_fr o ma h h := mo_fr.rf
  have hmx : o_many (σ.2 0) ≤ 5 := hok.2.2.1
  have hpx : o_people (σ.2 0) ≤ 6 := hok.2.2.2.2.1
  refine lv_aload_n hx hb dX5_proves_0 rfl (lv_at hl 0 rfl) ?_
  refine lv_aload_n hx hb dX5_proves_1 rfl (lv_at hl 0 rfl) ?_
  refine lv_iload_n hx hb dX5_proves_2 rfl (lv_at hl 1 rfl) ?_
  refine hv_callir (va_runV (As := [.int c9]) (rest := [.ref o]) ⟨hx, hb, hml, hown, hts⟩ (met_X5_isCitizen l G hM c9 ) (cwV 1 hts (lw_V q2736 q2738 qs58 q106 q2739) rfl rfl rfl (by decide +kernel) ⟨Nat.le_of_ble_eq_true rfl, Nat.le_of_ble_eq_true rfl⟩) (hv_preV hw pk_X5 hM.1) rfl rfl hl.1 rfl (lv_room (Nat.le_of_ble_eq_true rfl)) dX5_proves_3 ⟨Nat.le_of_ble_eq_true rfl, Nat.le_of_ble_eq_true rfl⟩) hw (fun H locs hw => ?_)
  refine lv_mat1 (P := (b01 (0 ≤ c9 ∧ c9 ≤ σ.2 0 5 - 1)) = 0) (j := 14) (fun k1 k2 => lv_if_ne (tgt := 13) hx hb dX5_proves_6 (by decide) (fun c => lv_iconst (v := 0) hx hb dX5_proves_13 (by decide) (k2 c)) (fun c => lv_iconst (v := 1) hx hb dX5_proves_9 (by decide) (lv_goto (tgt := 14) hx hb dX5_proves_10 (by decide) (k1 c)))) ?_
  refine lv_tope (y := b01 (¬ (0 ≤ c9 ∧ c9 ≤ σ.2 0 5 - 1))) (b01_c b01_0) ?_
  refine lv_iconst (v := 2) hx hb dX5_proves_14 (by decide) ?_
  refine lv_iload_n hx hb dX5_proves_15 rfl (lv_at hl 1 rfl) ?_
  refine mo_callv (va_runV (As := [.int (b01 (¬ (0 ≤ c9 ∧ c9 ≤ σ.2 0 5 - 1))), .int 2, .int c9]) (rest := []) ⟨hx, hb, hml, hown, hts⟩ (met_X5_hinders l G hM (¬ (0 ≤ c9 ∧ c9 ≤ σ.2 0 5 - 1)) 2 c9 ) (cwV 3 hts (lw_V q2669 q2671 qs48 q106 q2672) rfl rfl rfl (by decide +kernel) ⟨Nat.le_of_ble_eq_true rfl, Nat.le_of_ble_eq_true rfl⟩) (hv_preV hw pk_X5 hM.1) rfl rfl hl.1 rfl (lv_room (Nat.le_of_ble_eq_true rfl)) dX5_proves_16 ⟨Nat.le_of_ble_eq_true rfl, Nat.le_of_ble_eq_true rfl⟩) hw hF (fun hh H locs hM hF hw => ?_)
  by_cases hP16 : ¬ (0 ≤ c9 ∧ c9 ≤ σ.2 0 5 - 1)
  · skip
    rw [mo_hin_t hP16 h16] at hM
    have hm9 := m_ref.of σ (w := 2) (t := c9) (by decide)
    refine lv_aload_n hx hb dX5_proves_19 rfl (lv_at hl 0 rfl) ?_
    refine lv_iload_n hx hb dX5_proves_20 rfl (lv_at hl 2 rfl) ?_
    refine hv_callir (va_runS (As := [.int k]) (rest := [.ref o]) ⟨hx, hb, hml, hown, hts⟩ (met_X5_isKind l G k ) (va_cwS 1 hts (lw_S q2721 q2722 q106 q2723) rfl rfl rfl (by decide +kernel) ⟨Nat.le_of_ble_eq_true rfl, Nat.le_of_ble_eq_true rfl⟩) (hv_preS hw) rfl rfl hl.1 rfl (lv_room (Nat.le_of_ble_eq_true rfl)) dX5_proves_21 ⟨Nat.le_of_ble_eq_true rfl, Nat.le_of_ble_eq_true rfl⟩) hw (fun H locs hw => ?_)
    refine lv_mat1 (P := (b01 (0 ≤ k ∧ k ≤ 2)) = 0) (j := 32) (fun k1 k2 => lv_if_ne (tgt := 31) hx hb dX5_proves_24 (by decide) (fun c => lv_iconst (v := 0) hx hb dX5_proves_31 (by decide) (k2 c)) (fun c => lv_iconst (v := 1) hx hb dX5_proves_27 (by decide) (lv_goto (tgt := 32) hx hb dX5_proves_28 (by decide) (k1 c)))) ?_
    refine lv_tope (y := b01 (¬ (0 ≤ k ∧ k ≤ 2))) (b01_c b01_0) ?_
    refine lv_iconst (v := 2) hx hb dX5_proves_32 (by decide) ?_
    refine lv_iload_n hx hb dX5_proves_33 rfl (lv_at hl 2 rfl) ?_
    refine mo_callv (va_runV (As := [.int (b01 (¬ (0 ≤ k ∧ k ≤ 2))), .int 2, .int k]) (rest := []) ⟨hx, hb, hml, hown, hts⟩ (met_X5_hinders l G hM (¬ (0 ≤ k ∧ k ≤ 2)) 2 k ) (cwV 3 hts (lw_V q2669 q2671 qs48 q106 q2672) rfl rfl rfl (by decide +kernel) ⟨Nat.le_of_ble_eq_true rfl, Nat.le_of_ble_eq_true rfl⟩) (hv_preV hw pk_X5 hM.1) rfl rfl hl.1 rfl (lv_room (Nat.le_of_ble_eq_true rfl)) dX5_proves_34 ⟨Nat.le_of_ble_eq_true rfl, Nat.le_of_ble_eq_true rfl⟩) hw hF (fun hh H locs hM hF hw => ?_)
    rw [mo_hin_r ((by rw [hm9.1]; exact hm9.2.1))] at hM
    refine lv_aload_n hx hb dX5_proves_37 rfl (lv_at hl 0 rfl) ?_
    refine mo_get hx hb hts hown hw hM 16 (by decide) q2570 rfl (v := .int 2) rfl dX5_proves_38 ?_
    refine lv_if_ne (tgt := 53) hx hb dX5_proves_41 (by decide) (fun _ => ?_) (fun c => absurd c (by decide))
    refine lv_iconst (v := 0) hx hb dX5_proves_53 (by decide) ?_
    refine lv_istore_n (lv' := [(3, .int 0), (0, .ref o), (1, .int c9), (2, .int k)]) hx hb dX5_proves_54 rfl hl (by decide) rfl (fun ls hl => ?_)
    refine lv_aload_n hx hb dX5_proves_55 rfl (lv_at hl 1 rfl) ?_
    refine lv_iload_n hx hb dX5_proves_56 rfl (lv_at hl 0 rfl) ?_
    refine lv_mat1 (P := 0 = 0) (j := 65) (fun k1 k2 => lv_if_ne (tgt := 64) hx hb dX5_proves_57 (by decide) (fun c => lv_iconst (v := 0) hx hb dX5_proves_64 (by decide) (k2 c)) (fun c => lv_iconst (v := 1) hx hb dX5_proves_60 (by decide) (lv_goto (tgt := 65) hx hb dX5_proves_61 (by decide) (k1 c)))) ?_
    refine lv_bipush (v := 8) hx hb dX5_proves_65 (by decide) ?_
    refine lv_iload_n hx hb dX5_proves_67 rfl (lv_at hl 3 rfl) ?_
    refine mo_callv (va_runV (As := [.int (b01 (0 = 0)), .int 8, .int k]) (rest := []) ⟨hx, hb, hml, hown, hts⟩ (met_X5_hinders l G hM (0 = 0) 8 k ) (cwV 3 hts (lw_V q2669 q2671 qs48 q106 q2672) rfl rfl rfl (by decide +kernel) ⟨Nat.le_of_ble_eq_true rfl, Nat.le_of_ble_eq_true rfl⟩) (hv_preV hw pk_X5 hM.1) rfl rfl hl.1 rfl (lv_room (Nat.le_of_ble_eq_true rfl)) dX5_proves_68 ⟨Nat.le_of_ble_eq_true rfl, Nat.le_of_ble_eq_true rfl⟩) hw hF (fun hh H locs hM hF hw => ?_)
    rw [mo_hin_r ((by rw [hm9.1]; exact hm9.2.1))] at hM
    refine lv_aload_n hx hb dX5_proves_71 rfl (lv_at hl 1 rfl) ?_
    refine mo_get hx hb hts hown hw hM 16 (by decide) q2570 rfl (v := .int 2) rfl dX5_proves_72 ?_
    refine lv_if_ne (tgt := 104) hx hb dX5_proves_75 (by decide) (fun _ => ?_) (fun c => absurd c (by decide))
    refine lv_iload_n hx hb dX5_proves_104 rfl (lv_at hl 0 rfl) ?_
    exact hret rfl hw ⟨_, (by unfold i_proves o_at; rw [if_pos hP16]; exact hm9 : m_inn σ (i_proves (σ.2 0) c9 k) (mo_st (mo_st σ 16 2) 17 c9) (0)), hM, hF⟩ (Nat.le_of_ble_eq_true rfl) (Nat.le_of_ble_eq_true rfl) dX5_proves_105
  · skip
    rw [mo_hin_f hP16] at hM
    obtain ⟨nc, hnc, rfl⟩ := o_ix (Decidable.not_not.mp hP16) (congrArg (· - 1) hok.2.2.2.1) (by omega)
    refine lv_aload_n hx hb dX5_proves_19 rfl (lv_at hl 0 rfl) ?_
    refine lv_iload_n hx hb dX5_proves_20 rfl (lv_at hl 2 rfl) ?_
    refine hv_callir (va_runS (As := [.int k]) (rest := [.ref o]) ⟨hx, hb, hml, hown, hts⟩ (met_X5_isKind l G k ) (va_cwS 1 hts (lw_S q2721 q2722 q106 q2723) rfl rfl rfl (by decide +kernel) ⟨Nat.le_of_ble_eq_true rfl, Nat.le_of_ble_eq_true rfl⟩) (hv_preS hw) rfl rfl hl.1 rfl (lv_room (Nat.le_of_ble_eq_true rfl)) dX5_proves_21 ⟨Nat.le_of_ble_eq_true rfl, Nat.le_of_ble_eq_true rfl⟩) hw (fun H locs hw => ?_)
    refine lv_mat1 (P := (b01 (0 ≤ k ∧ k ≤ 2)) = 0) (j := 32) (fun k1 k2 => lv_if_ne (tgt := 31) hx hb dX5_proves_24 (by decide) (fun c => lv_iconst (v := 0) hx hb dX5_proves_31 (by decide) (k2 c)) (fun c => lv_iconst (v := 1) hx hb dX5_proves_27 (by decide) (lv_goto (tgt := 32) hx hb dX5_proves_28 (by decide) (k1 c)))) ?_
    refine lv_tope (y := b01 (¬ (0 ≤ k ∧ k ≤ 2))) (b01_c b01_0) ?_
    refine lv_iconst (v := 2) hx hb dX5_proves_32 (by decide) ?_
    refine lv_iload_n hx hb dX5_proves_33 rfl (lv_at hl 2 rfl) ?_
    refine mo_callv (va_runV (As := [.int (b01 (¬ (0 ≤ k ∧ k ≤ 2))), .int 2, .int k]) (rest := []) ⟨hx, hb, hml, hown, hts⟩ (met_X5_hinders l G hM (¬ (0 ≤ k ∧ k ≤ 2)) 2 k ) (cwV 3 hts (lw_V q2669 q2671 qs48 q106 q2672) rfl rfl rfl (by decide +kernel) ⟨Nat.le_of_ble_eq_true rfl, Nat.le_of_ble_eq_true rfl⟩) (hv_preV hw pk_X5 hM.1) rfl rfl hl.1 rfl (lv_room (Nat.le_of_ble_eq_true rfl)) dX5_proves_34 ⟨Nat.le_of_ble_eq_true rfl, Nat.le_of_ble_eq_true rfl⟩) hw hF (fun hh H locs hM hF hw => ?_)
    by_cases hP34 : ¬ (0 ≤ k ∧ k ≤ 2)
    · skip
      rw [mo_hin_t hP34 h16] at hM
      have hm9 := m_ref.of σ (w := 2) (t := k) (by decide)
      refine lv_aload_n hx hb dX5_proves_37 rfl (lv_at hl 0 rfl) ?_
      refine mo_get hx hb hts hown hw hM 16 (by decide) q2570 rfl (v := .int 2) rfl dX5_proves_38 ?_
      refine lv_if_ne (tgt := 53) hx hb dX5_proves_41 (by decide) (fun _ => ?_) (fun c => absurd c (by decide))
      refine lv_iconst (v := 0) hx hb dX5_proves_53 (by decide) ?_
      refine lv_istore_n (lv' := [(3, .int 0), (0, .ref o), (1, .int (nI nc)), (2, .int k)]) hx hb dX5_proves_54 rfl hl (by decide) rfl (fun ls hl => ?_)
      refine lv_aload_n hx hb dX5_proves_55 rfl (lv_at hl 1 rfl) ?_
      refine lv_iload_n hx hb dX5_proves_56 rfl (lv_at hl 0 rfl) ?_
      refine lv_mat1 (P := 0 = 0) (j := 65) (fun k1 k2 => lv_if_ne (tgt := 64) hx hb dX5_proves_57 (by decide) (fun c => lv_iconst (v := 0) hx hb dX5_proves_64 (by decide) (k2 c)) (fun c => lv_iconst (v := 1) hx hb dX5_proves_60 (by decide) (lv_goto (tgt := 65) hx hb dX5_proves_61 (by decide) (k1 c)))) ?_
      refine lv_bipush (v := 8) hx hb dX5_proves_65 (by decide) ?_
      refine lv_iload_n hx hb dX5_proves_67 rfl (lv_at hl 3 rfl) ?_
      refine mo_callv (va_runV (As := [.int (b01 (0 = 0)), .int 8, .int k]) (rest := []) ⟨hx, hb, hml, hown, hts⟩ (met_X5_hinders l G hM (0 = 0) 8 k ) (cwV 3 hts (lw_V q2669 q2671 qs48 q106 q2672) rfl rfl rfl (by decide +kernel) ⟨Nat.le_of_ble_eq_true rfl, Nat.le_of_ble_eq_true rfl⟩) (hv_preV hw pk_X5 hM.1) rfl rfl hl.1 rfl (lv_room (Nat.le_of_ble_eq_true rfl)) dX5_proves_68 ⟨Nat.le_of_ble_eq_true rfl, Nat.le_of_ble_eq_true rfl⟩) hw hF (fun hh H locs hM hF hw => ?_)
      rw [mo_hin_r ((by rw [hm9.1]; exact hm9.2.1))] at hM
      refine lv_aload_n hx hb dX5_proves_71 rfl (lv_at hl 1 rfl) ?_
      refine mo_get hx hb hts hown hw hM 16 (by decide) q2570 rfl (v := .int 2) rfl dX5_proves_72 ?_
      refine lv_if_ne (tgt := 104) hx hb dX5_proves_75 (by decide) (fun _ => ?_) (fun c => absurd c (by decide))
      refine lv_iload_n hx hb dX5_proves_104 rfl (lv_at hl 0 rfl) ?_
      exact hret rfl hw ⟨_, (by unfold i_proves o_at; simp only [o_n_nI (show nc < 2 ^ 31 by omega)]; rw [if_neg hP16, if_pos hP34]; exact hm9 : m_inn σ (i_proves (σ.2 0) (nI nc) k) (mo_st (mo_st σ 16 2) 17 k) (0)), hM, hF⟩ (Nat.le_of_ble_eq_true rfl) (Nat.le_of_ble_eq_true rfl) dX5_proves_105
    · skip
      rw [mo_hin_f hP34] at hM
      obtain ⟨nk, hnk, rfl⟩ := o_ix (Decidable.not_not.mp hP34) (show (2 : Int32) = nI 3 - 1 by decide) (by omega)
      refine lv_aload_n hx hb dX5_proves_37 rfl (lv_at hl 0 rfl) ?_
      refine mo_get hx hb hts hown hw hM 16 (by decide) q2570 rfl (v := .int (σ.1 16)) rfl dX5_proves_38 ?_
      refine lv_tope (y := 0) (h16) ?_
      refine lv_if_ne (tgt := 53) hx hb dX5_proves_41 (by decide) (fun c => absurd c (by decide)) (fun _ => ?_)
      refine lv_aload_n hx hb dX5_proves_44 rfl (lv_at hl 0 rfl) ?_
      refine lv_iload_n hx hb dX5_proves_45 rfl (lv_at hl 1 rfl) ?_
      refine lv_iload_n hx hb dX5_proves_46 rfl (lv_at hl 2 rfl) ?_
      refine hv_callir (va_runV (As := [.int (nI nc), .int (nI nk)]) (rest := []) ⟨hx, hb, hml, hown, hts⟩ (met_X5_unproved l G hM nc nk (show 23 + 19 * nc + (13 + 2 * nk + 1) < 137 by omega)) (cwV 2 hts (lw_V q2768 q2770 qs65 q106 q2771) rfl rfl rfl (by decide +kernel) ⟨Nat.le_of_ble_eq_true rfl, Nat.le_of_ble_eq_true rfl⟩) (hv_preV hw pk_X5 hM.1) rfl rfl hl.1 rfl (lv_room (Nat.le_of_ble_eq_true rfl)) dX5_proves_47 ⟨Nat.le_of_ble_eq_true rfl, Nat.le_of_ble_eq_true rfl⟩) hw (fun H locs hw => ?_)
      refine lv_goto (tgt := 54) hx hb dX5_proves_50 (by decide) ?_
      refine lv_istore_n (lv' := [(3, .int (σ.2 0 (23 + 19 * nc + (13 + 2 * nk + 1)))), (0, .ref o), (1, .int (nI nc)), (2, .int (nI nk))]) hx hb dX5_proves_54 rfl hl (by decide) rfl (fun ls hl => ?_)
      refine lv_aload_n hx hb dX5_proves_55 rfl (lv_at hl 1 rfl) ?_
      refine lv_iload_n hx hb dX5_proves_56 rfl (lv_at hl 0 rfl) ?_
      refine lv_mat1 (P := (σ.2 0 (23 + 19 * nc + (13 + 2 * nk + 1))) = 0) (j := 65) (fun k1 k2 => lv_if_ne (tgt := 64) hx hb dX5_proves_57 (by decide) (fun c => lv_iconst (v := 0) hx hb dX5_proves_64 (by decide) (k2 c)) (fun c => lv_iconst (v := 1) hx hb dX5_proves_60 (by decide) (lv_goto (tgt := 65) hx hb dX5_proves_61 (by decide) (k1 c)))) ?_
      refine lv_bipush (v := 8) hx hb dX5_proves_65 (by decide) ?_
      refine lv_iload_n hx hb dX5_proves_67 rfl (lv_at hl 3 rfl) ?_
      refine mo_callv (va_runV (As := [.int (b01 ((σ.2 0 (23 + 19 * nc + (13 + 2 * nk + 1))) = 0)), .int 8, .int (nI nk)]) (rest := []) ⟨hx, hb, hml, hown, hts⟩ (met_X5_hinders l G hM ((σ.2 0 (23 + 19 * nc + (13 + 2 * nk + 1))) = 0) 8 (nI nk) ) (cwV 3 hts (lw_V q2669 q2671 qs48 q106 q2672) rfl rfl rfl (by decide +kernel) ⟨Nat.le_of_ble_eq_true rfl, Nat.le_of_ble_eq_true rfl⟩) (hv_preV hw pk_X5 hM.1) rfl rfl hl.1 rfl (lv_room (Nat.le_of_ble_eq_true rfl)) dX5_proves_68 ⟨Nat.le_of_ble_eq_true rfl, Nat.le_of_ble_eq_true rfl⟩) hw hF (fun hh H locs hM hF hw => ?_)
      by_cases hP68 : (σ.2 0 (23 + 19 * nc + (13 + 2 * nk + 1))) = 0
      · skip
        rw [mo_hin_t hP68 h16] at hM
        have hm9 := m_ref.of σ (w := 8) (t := (nI nk)) (by decide)
        refine lv_aload_n hx hb dX5_proves_71 rfl (lv_at hl 1 rfl) ?_
        refine mo_get hx hb hts hown hw hM 16 (by decide) q2570 rfl (v := .int 8) rfl dX5_proves_72 ?_
        refine lv_if_ne (tgt := 104) hx hb dX5_proves_75 (by decide) (fun _ => ?_) (fun c => absurd c (by decide))
        refine lv_iload_n hx hb dX5_proves_104 rfl (lv_at hl 0 rfl) ?_
        exact hret rfl hw ⟨_, (by unfold i_proves o_at; simp only [o_n_nI (show nc < 2 ^ 31 by omega), o_n_nI (show nk < 2 ^ 31 by omega)]; rw [if_neg hP16, if_neg hP34, if_pos hP68]; exact hm9 : m_inn σ (i_proves (σ.2 0) (nI nc) (nI nk)) (mo_st (mo_st σ 16 8) 17 (nI nk)) (σ.2 0 (23 + 19 * nc + (13 + 2 * nk + 1)))), hM, hF⟩ (Nat.le_of_ble_eq_true rfl) (Nat.le_of_ble_eq_true rfl) dX5_proves_105
      · skip
        rw [mo_hin_f hP68] at hM
        refine lv_aload_n hx hb dX5_proves_71 rfl (lv_at hl 1 rfl) ?_
        refine mo_get hx hb hts hown hw hM 16 (by decide) q2570 rfl (v := .int (σ.1 16)) rfl dX5_proves_72 ?_
        refine lv_tope (y := 0) (h16) ?_
        refine lv_if_ne (tgt := 104) hx hb dX5_proves_75 (by decide) (fun c => absurd c (by decide)) (fun _ => ?_)
        refine lv_aload_n hx hb dX5_proves_78 rfl (lv_at hl 1 rfl) ?_
        refine lv_iload_n hx hb dX5_proves_79 rfl (lv_at hl 2 rfl) ?_
        refine lv_bipush (v := 13) hx hb dX5_proves_80 (by decide) ?_
        refine lv_iconst (v := 2) hx hb dX5_proves_82 (by decide) ?_
        refine lv_iload_n hx hb dX5_proves_83 rfl (lv_at hl 3 rfl) ?_
        refine lv_imul hx hb dX5_proves_84 ?_
        refine lv_tope (y := nI (2 * nk)) (by simp only [nI, Int32.ofNat_add, Int32.ofNat_mul] <;> rfl) ?_
        refine lv_iadd hx hb dX5_proves_85 ?_
        refine lv_tope (y := nI (13 + 2 * nk)) (by simp only [nI, Int32.ofNat_add, Int32.ofNat_mul] <;> rfl) ?_
        refine lv_iload_n hx hb dX5_proves_86 rfl (lv_at hl 0 rfl) ?_
        refine mo_callv (va_runV (As := [.int (nI nc), .int (nI (13 + 2 * nk)), .int (σ.2 0 (23 + 19 * nc + (13 + 2 * nk + 1)))]) (rest := []) ⟨hx, hb, hml, hown, hts⟩ (met_X5_gets l G hM nc (13 + 2 * nk) (σ.2 0 (23 + 19 * nc + (13 + 2 * nk + 1))) (show 23 + 19 * nc + (13 + 2 * nk) < 137 by omega) (σ.2 0 (23 + 19 * nc + (13 + 2 * nk))) rfl) (cwV 3 hts (lw_V q2748 q2750 qs61 q106 q2751) rfl rfl rfl (by decide +kernel) ⟨Nat.le_of_ble_eq_true rfl, Nat.le_of_ble_eq_true rfl⟩) (hv_preV hw pk_X5 hM.1) rfl rfl hl.1 rfl (lv_room (Nat.le_of_ble_eq_true rfl)) dX5_proves_87 ⟨Nat.le_of_ble_eq_true rfl, Nat.le_of_ble_eq_true rfl⟩) hw hF (fun hh H locs hM hF hw => ?_)
        refine lv_aload_n hx hb dX5_proves_90 rfl (lv_at hl 1 rfl) ?_
        refine lv_iload_n hx hb dX5_proves_91 rfl (lv_at hl 2 rfl) ?_
        refine lv_bipush (v := 13) hx hb dX5_proves_92 (by decide) ?_
        refine lv_iconst (v := 2) hx hb dX5_proves_94 (by decide) ?_
        refine lv_iload_n hx hb dX5_proves_95 rfl (lv_at hl 3 rfl) ?_
        refine lv_imul hx hb dX5_proves_96 ?_
        refine lv_tope (y := nI (2 * nk)) (by simp only [nI, Int32.ofNat_add, Int32.ofNat_mul] <;> rfl) ?_
        refine lv_iadd hx hb dX5_proves_97 ?_
        refine lv_tope (y := nI (13 + 2 * nk)) (by simp only [nI, Int32.ofNat_add, Int32.ofNat_mul] <;> rfl) ?_
        refine lv_iconst (v := 1) hx hb dX5_proves_98 (by decide) ?_
        refine lv_iadd hx hb dX5_proves_99 ?_
        refine lv_tope (y := nI (13 + 2 * nk + 1)) (by simp only [nI, Int32.ofNat_add, Int32.ofNat_mul] <;> rfl) ?_
        refine lv_iconst (v := 0) hx hb dX5_proves_100 (by decide) ?_
        refine mo_callv (va_runV (As := [.int (nI nc), .int (nI (13 + 2 * nk + 1)), .int 0]) (rest := []) ⟨hx, hb, hml, hown, hts⟩ (met_X5_becomes l G hM nc (13 + 2 * nk + 1) 0 (show 23 + 19 * nc + (13 + 2 * nk + 1) < 137 by omega)) (cwV 3 hts (lw_V q2744 q2746 qs60 q106 q2747) rfl rfl rfl (by decide +kernel) ⟨Nat.le_of_ble_eq_true rfl, Nat.le_of_ble_eq_true rfl⟩) (hv_preV hw pk_X5 hM.1) rfl rfl hl.1 rfl (lv_room (Nat.le_of_ble_eq_true rfl)) dX5_proves_101 ⟨Nat.le_of_ble_eq_true rfl, Nat.le_of_ble_eq_true rfl⟩) hw hF (fun hh H locs hM hF hw => ?_)
        refine lv_iload_n hx hb dX5_proves_104 rfl (lv_at hl 0 rfl) ?_
        exact hret rfl hw ⟨_, (by unfold i_proves o_at; simp only [o_n_nI (show nc < 2 ^ 31 by omega), o_n_nI (show nk < 2 ^ 31 by omega)]; rw [if_neg hP16, if_neg hP34, if_neg hP68]; exact ⟨by simp only [mo_sa_na, mo_na_na, mo_na_2], by first | rfl | simp only [mo_sa_na, mo_na_na, mo_na_2]⟩ : m_inn σ (i_proves (σ.2 0) (nI nc) (nI nk)) (mo_sa (mo_sa σ 0 (23 + 19 * nc + (13 + 2 * nk)) (σ.2 0 (23 + 19 * nc + (13 + 2 * nk)) + (σ.2 0 (23 + 19 * nc + (13 + 2 * nk + 1))))) 0 (23 + 19 * nc + (13 + 2 * nk + 1)) 0) (σ.2 0 (23 + 19 * nc + (13 + 2 * nk + 1)))), hM, hF⟩ (Nat.le_of_ble_eq_true rfl) (Nat.le_of_ble_eq_true rfl) dX5_proves_105
