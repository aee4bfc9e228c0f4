set_option maxRecDepth 100000
set_option maxHeartbeats 1000000 in
theorem met_X5_claims (l : Launch) (G : hG) {h : hp} {o : Nat} {ma : Nat → Nat} {σ : MS} (hM : isMod G h o ma σ) (c9 : Int32) (k : Int32) (x : Int32) (pr : Prop) [Decidable pr] (hok : okI (σ.2 0)) (h16 : σ.1 16 = 0) : hv_Mi l G yX5_claims (ws_ yX5_claims cX5_claims 6 (Option.some Jvm.ClassFile.FieldType.int)) ({ frames := 3, cells := 0, slots := 0, locals := 67 } : Room) [.ref o, .int c9, .int k, .int x, .int (b01 pr)] h (fun r hh => ∃ σ2, (m_inn σ (i_claims (σ.2 0) c9 k x pr) σ2 r) ∧ isMod G hh o ma σ2 ∧ mo_fr o ma h hh) := by
  refine hv_bi .int (Or.inl rfl) (own := RX5) (by decide +kernel) rfl (Nat.le_of_ble_eq_true rfl) (fun p e s m a below meth c ls Q hx hb hml hown hts hnm hret hw hl => ?_)
  have hl : lv_has ls 6 [(0, .ref o), (1, .int c9), (2, .int k), (3, .int x), (4, .int (b01 pr))] := hl
  have hF : mo_fr o ma h h := mo_fr.rf
  have hmx : o_many (σ.2 0) ≤ 5 := hok.2.2.1
  have hpx : o_people (σ.2 0) ≤ 6 := hok.2.2.2.2.1
  refine lv_aload_n hx hb dX5_claims_0 rfl (lv_at hl 0 rfl) ?_
  refine lv_aload_n hx hb dX5_claims_1 rfl (lv_at hl 0 rfl) ?_
  refine lv_iload_n hx hb dX5_claims_2 rfl (lv_at hl 1 rfl) ?_
  refine hv_callir (va_runV (As := [.int c9]) (rest := [.ref o]) ⟨hx, hb, hml, hown, hts⟩ (met_X5_isCitizen l G hM c9 ) (cwV 1 hts (lw_V q2736 q2738 qs58 q106 q2739) rfl rfl rfl (by decide +kernel) ⟨Nat.le_of_ble_eq_true rfl, Nat.le_of_ble_eq_true rfl⟩) (hv_preV hw pk_X5 hM.1) rfl rfl hl.1 rfl (lv_room (Nat.le_of_ble_eq_true rfl)) dX5_claims_3 ⟨Nat.le_of_ble_eq_true rfl, Nat.le_of_ble_eq_true rfl⟩) hw (fun H locs hw => ?_)
  refine lv_mat1 (P := (b01 (0 ≤ c9 ∧ c9 ≤ σ.2 0 5 - 1)) = 0) (j := 14) (fun k1 k2 => lv_if_ne (tgt := 13) hx hb dX5_claims_6 (by decide) (fun c => lv_iconst (v := 0) hx hb dX5_claims_13 (by decide) (k2 c)) (fun c => lv_iconst (v := 1) hx hb dX5_claims_9 (by decide) (lv_goto (tgt := 14) hx hb dX5_claims_10 (by decide) (k1 c)))) ?_
  refine lv_tope (y := b01 (¬ (0 ≤ c9 ∧ c9 ≤ σ.2 0 5 - 1))) (b01_c b01_0) ?_
  refine lv_iconst (v := 2) hx hb dX5_claims_14 (by decide) ?_
  refine lv_iload_n hx hb dX5_claims_15 rfl (lv_at hl 1 rfl) ?_
  refine mo_callv (va_runV (As := [.int (b01 (¬ (0 ≤ c9 ∧ c9 ≤ σ.2 0 5 - 1))), .int 2, .int c9]) (rest := []) ⟨hx, hb, hml, hown, hts⟩ (met_X5_hinders l G hM (¬ (0 ≤ c9 ∧ c9 ≤ σ.2 0 5 - 1)) 2 c9 ) (cwV 3 hts (lw_V q2669 q2671 qs48 q106 q2672) rfl rfl rfl (by decide +kernel) ⟨Nat.le_of_ble_eq_true rfl, Nat.le_of_ble_eq_true rfl⟩) (hv_preV hw pk_X5 hM.1) rfl rfl hl.1 rfl (lv_room (Nat.le_of_ble_eq_true rfl)) dX5_claims_16 ⟨Nat.le_of_ble_eq_true rfl, Nat.le_of_ble_eq_true rfl⟩) hw hF (fun hh H locs hM hF hw => ?_)
  by_cases hP16 : ¬ (0 ≤ c9 ∧ c9 ≤ σ.2 0 5 - 1)
  · skip
    rw [mo_hin_t hP16 h16] at hM
    have hm9 := m_ref.of σ (w := 2) (t := c9) (by decide)
    refine lv_aload_n hx hb dX5_claims_19 rfl (lv_at hl 0 rfl) ?_
    refine lv_iload_n hx hb dX5_claims_20 rfl (lv_at hl 2 rfl) ?_
    refine hv_callir (va_runS (As := [.int k]) (rest := [.ref o]) ⟨hx, hb, hml, hown, hts⟩ (met_X5_isKind l G k ) (va_cwS 1 hts (lw_S q2721 q2722 q106 q2723) rfl rfl rfl (by decide +kernel) ⟨Nat.le_of_ble_eq_true rfl, Nat.le_of_ble_eq_true rfl⟩) (hv_preS hw) rfl rfl hl.1 rfl (lv_room (Nat.le_of_ble_eq_true rfl)) dX5_claims_21 ⟨Nat.le_of_ble_eq_true rfl, Nat.le_of_ble_eq_true rfl⟩) hw (fun H locs hw => ?_)
    refine lv_mat1 (P := (b01 (0 ≤ k ∧ k ≤ 2)) = 0) (j := 32) (fun k1 k2 => lv_if_ne (tgt := 31) hx hb dX5_claims_24 (by decide) (fun c => lv_iconst (v := 0) hx hb dX5_claims_31 (by decide) (k2 c)) (fun c => lv_iconst (v := 1) hx hb dX5_claims_27 (by decide) (lv_goto (tgt := 32) hx hb dX5_claims_28 (by decide) (k1 c)))) ?_
    refine lv_tope (y := b01 (¬ (0 ≤ k ∧ k ≤ 2))) (b01_c b01_0) ?_
    refine lv_iconst (v := 2) hx hb dX5_claims_32 (by decide) ?_
    refine lv_iload_n hx hb dX5_claims_33 rfl (lv_at hl 2 rfl) ?_
    refine mo_callv (va_runV (As := [.int (b01 (¬ (0 ≤ k ∧ k ≤ 2))), .int 2, .int k]) (rest := []) ⟨hx, hb, hml, hown, hts⟩ (met_X5_hinders l G hM (¬ (0 ≤ k ∧ k ≤ 2)) 2 k ) (cwV 3 hts (lw_V q2669 q2671 qs48 q106 q2672) rfl rfl rfl (by decide +kernel) ⟨Nat.le_of_ble_eq_true rfl, Nat.le_of_ble_eq_true rfl⟩) (hv_preV hw pk_X5 hM.1) rfl rfl hl.1 rfl (lv_room (Nat.le_of_ble_eq_true rfl)) dX5_claims_34 ⟨Nat.le_of_ble_eq_true rfl, Nat.le_of_ble_eq_true rfl⟩) hw hF (fun hh H locs hM hF hw => ?_)
    rw [mo_hin_r ((by rw [hm9.1]; exact hm9.2.1))] at hM
    refine lv_aload_n hx hb dX5_claims_37 rfl (lv_at hl 0 rfl) ?_
    refine lv_iload_n hx hb dX5_claims_38 rfl (lv_at hl 3 rfl) ?_
    refine lv_iconst (v := 1) hx hb dX5_claims_39 (by decide) ?_
    refine lv_sipush (v := 9999) hx hb dX5_claims_40 (by decide) ?_
    refine mo_callv (va_runV (As := [.int x, .int 1, .int 9999]) (rest := []) ⟨hx, hb, hml, hown, hts⟩ (met_X5_hindersRange l G hM x 1 9999 ) (cwV 3 hts (lw_V q2662 q2664 qs47 q106 q2665) rfl rfl rfl (by decide +kernel) ⟨Nat.le_of_ble_eq_true rfl, Nat.le_of_ble_eq_true rfl⟩) (hv_preV hw pk_X5 hM.1) rfl rfl hl.1 rfl (lv_room (Nat.le_of_ble_eq_true rfl)) dX5_claims_43 ⟨Nat.le_of_ble_eq_true rfl, Nat.le_of_ble_eq_true rfl⟩) hw hF (fun hh H locs hM hF hw => ?_)
    rw [mo_hin_r ((by rw [hm9.1]; exact hm9.2.1))] at hM
    refine lv_aload_n hx hb dX5_claims_46 rfl (lv_at hl 0 rfl) ?_
    refine mo_get hx hb hts hown hw hM 16 (by decide) q2570 rfl (v := .int 2) rfl dX5_claims_47 ?_
    refine lv_if_ne (tgt := 62) hx hb dX5_claims_50 (by decide) (fun _ => ?_) (fun c => absurd c (by decide))
    refine lv_iload_n hx hb dX5_claims_62 rfl (lv_at hl 3 rfl) ?_
    refine lv_istore (lv' := [(5, .int x), (0, .ref o), (1, .int c9), (2, .int k), (3, .int x), (4, .int (b01 pr))]) hx hb dX5_claims_63 hl (by decide) rfl (fun ls hl => ?_)
    refine lv_aload_n hx hb dX5_claims_65 rfl (lv_at hl 1 rfl) ?_
    refine lv_iload hx hb dX5_claims_66 (lv_at hl 0 rfl) ?_
    refine lv_iload_n hx hb dX5_claims_68 rfl (lv_at hl 4 rfl) ?_
    refine lv_mat0 (P := x ≤ x) (j := 77) (fun k1 k2 => lv_icmp_ge (tgt := 76) hx hb dX5_claims_69 (by decide) (fun c => lv_iconst (v := 0) hx hb dX5_claims_76 (by decide) (k1 c)) (fun c => lv_iconst (v := 1) hx hb dX5_claims_72 (by decide) (lv_goto (tgt := 77) hx hb dX5_claims_73 (by decide) (k2 c)))) ?_
    refine lv_bipush (v := 7) hx hb dX5_claims_77 (by decide) ?_
    refine lv_iload_n hx hb dX5_claims_79 rfl (lv_at hl 4 rfl) ?_
    refine lv_iload hx hb dX5_claims_80 (lv_at hl 0 rfl) ?_
    refine lv_isub hx hb dX5_claims_82 ?_
    refine mo_callv (va_runV (As := [.int (b01 (¬ (x ≤ x))), .int 7, .int (x - x)]) (rest := []) ⟨hx, hb, hml, hown, hts⟩ (met_X5_hinders l G hM (¬ (x ≤ x)) 7 (x - x) ) (cwV 3 hts (lw_V q2669 q2671 qs48 q106 q2672) rfl rfl rfl (by decide +kernel) ⟨Nat.le_of_ble_eq_true rfl, Nat.le_of_ble_eq_true rfl⟩) (hv_preV hw pk_X5 hM.1) rfl rfl hl.1 rfl (lv_room (Nat.le_of_ble_eq_true rfl)) dX5_claims_83 ⟨Nat.le_of_ble_eq_true rfl, Nat.le_of_ble_eq_true rfl⟩) hw hF (fun hh H locs hM hF hw => ?_)
    rw [mo_hin_r ((by rw [hm9.1]; exact hm9.2.1))] at hM
    refine lv_aload_n hx hb dX5_claims_86 rfl (lv_at hl 1 rfl) ?_
    refine mo_get hx hb hts hown hw hM 16 (by decide) q2570 rfl (v := .int 2) rfl dX5_claims_87 ?_
    refine lv_if_eq (tgt := 95) hx hb dX5_claims_90 (by decide) (fun c => absurd c (by decide)) (fun _ => ?_)
    refine lv_iconst (v := 0) hx hb dX5_claims_93 (by decide) ?_
    exact hret rfl hw ⟨_, (by unfold i_claims o_at o_slot; rw [if_pos hP16]; exact hm9 : m_inn σ (i_claims (σ.2 0) c9 k x pr) (mo_st (mo_st σ 16 2) 17 c9) (0)), hM, hF⟩ (Nat.le_of_ble_eq_true rfl) (Nat.le_of_ble_eq_true rfl) dX5_claims_94
  · skip
    rw [mo_hin_f hP16] at hM
    obtain ⟨nc, hnc, rfl⟩ := o_ix (Decidable.not_not.mp hP16) (congrArg (· - 1) hok.2.2.2.1) (by omega)
    refine lv_aload_n hx hb dX5_claims_19 rfl (lv_at hl 0 rfl) ?_
    refine lv_iload_n hx hb dX5_claims_20 rfl (lv_at hl 2 rfl) ?_
    refine hv_callir (va_runS (As := [.int k]) (rest := [.ref o]) ⟨hx, hb, hml, hown, hts⟩ (met_X5_isKind l G k ) (va_cwS 1 hts (lw_S q2721 q2722 q106 q2723) rfl rfl rfl (by decide +kernel) ⟨Nat.le_of_ble_eq_true rfl, Nat.le_of_ble_eq_true rfl⟩) (hv_preS hw) rfl rfl hl.1 rfl (lv_room (Nat.le_of_ble_eq_true rfl)) dX5_claims_21 ⟨Nat.le_of_ble_eq_true rfl, Nat.le_of_ble_eq_true rfl⟩) hw (fun H locs hw => ?_)
    refine lv_mat1 (P := (b01 (0 ≤ k ∧ k ≤ 2)) = 0) (j := 32) (fun k1 k2 => lv_if_ne (tgt := 31) hx hb dX5_claims_24 (by decide) (fun c => lv_iconst (v := 0) hx hb dX5_claims_31 (by decide) (k2 c)) (fun c => lv_iconst (v := 1) hx hb dX5_claims_27 (by decide) (lv_goto (tgt := 32) hx hb dX5_claims_28 (by decide) (k1 c)))) ?_
    refine lv_tope (y := b01 (¬ (0 ≤ k ∧ k ≤ 2))) (b01_c b01_0) ?_
    refine lv_iconst (v := 2) hx hb dX5_claims_32 (by decide) ?_
    refine lv_iload_n hx hb dX5_claims_33 rfl (lv_at hl 2 rfl) ?_
    refine mo_callv (va_runV (As := [.int (b01 (¬ (0 ≤ k ∧ k ≤ 2))), .int 2, .int k]) (rest := []) ⟨hx, hb, hml, hown, hts⟩ (met_X5_hinders l G hM (¬ (0 ≤ k ∧ k ≤ 2)) 2 k ) (cwV 3 hts (lw_V q2669 q2671 qs48 q106 q2672) rfl rfl rfl (by decide +kernel) ⟨Nat.le_of_ble_eq_true rfl, Nat.le_of_ble_eq_true rfl⟩) (hv_preV hw pk_X5 hM.1) rfl rfl hl.1 rfl (lv_room (Nat.le_of_ble_eq_true rfl)) dX5_claims_34 ⟨Nat.le_of_ble_eq_true rfl, Nat.le_of_ble_eq_true rfl⟩) hw hF (fun hh H locs hM hF hw => ?_)
    by_cases hP34 : ¬ (0 ≤ k ∧ k ≤ 2)
    · skip
      rw [mo_hin_t hP34 h16] at hM
      have hm9 := m_ref.of σ (w := 2) (t := k) (by decide)
      refine lv_aload_n hx hb dX5_claims_37 rfl (lv_at hl 0 rfl) ?_
      refine lv_iload_n hx hb dX5_claims_38 rfl (lv_at hl 3 rfl) ?_
      refine lv_iconst (v := 1) hx hb dX5_claims_39 (by decide) ?_
      refine lv_sipush (v := 9999) hx hb dX5_claims_40 (by decide) ?_
      refine mo_callv (va_runV (As := [.int x, .int 1, .int 9999]) (rest := []) ⟨hx, hb, hml, hown, hts⟩ (met_X5_hindersRange l G hM x 1 9999 ) (cwV 3 hts (lw_V q2662 q2664 qs47 q106 q2665) rfl rfl rfl (by decide +kernel) ⟨Nat.le_of_ble_eq_true rfl, Nat.le_of_ble_eq_true rfl⟩) (hv_preV hw pk_X5 hM.1) rfl rfl hl.1 rfl (lv_room (Nat.le_of_ble_eq_true rfl)) dX5_claims_43 ⟨Nat.le_of_ble_eq_true rfl, Nat.le_of_ble_eq_true rfl⟩) hw hF (fun hh H locs hM hF hw => ?_)
      rw [mo_hin_r ((by rw [hm9.1]; exact hm9.2.1))] at hM
      refine lv_aload_n hx hb dX5_claims_46 rfl (lv_at hl 0 rfl) ?_
      refine mo_get hx hb hts hown hw hM 16 (by decide) q2570 rfl (v := .int 2) rfl dX5_claims_47 ?_
      refine lv_if_ne (tgt := 62) hx hb dX5_claims_50 (by decide) (fun _ => ?_) (fun c => absurd c (by decide))
      refine lv_iload_n hx hb dX5_claims_62 rfl (lv_at hl 3 rfl) ?_
      refine lv_istore (lv' := [(5, .int x), (0, .ref o), (1, .int (nI nc)), (2, .int k), (3, .int x), (4, .int (b01 pr))]) hx hb dX5_claims_63 hl (by decide) rfl (fun ls hl => ?_)
      refine lv_aload_n hx hb dX5_claims_65 rfl (lv_at hl 1 rfl) ?_
      refine lv_iload hx hb dX5_claims_66 (lv_at hl 0 rfl) ?_
      refine lv_iload_n hx hb dX5_claims_68 rfl (lv_at hl 4 rfl) ?_
      refine lv_mat0 (P := x ≤ x) (j := 77) (fun k1 k2 => lv_icmp_ge (tgt := 76) hx hb dX5_claims_69 (by decide) (fun c => lv_iconst (v := 0) hx hb dX5_claims_76 (by decide) (k1 c)) (fun c => lv_iconst (v := 1) hx hb dX5_claims_72 (by decide) (lv_goto (tgt := 77) hx hb dX5_claims_73 (by decide) (k2 c)))) ?_
      refine lv_bipush (v := 7) hx hb dX5_claims_77 (by decide) ?_
      refine lv_iload_n hx hb dX5_claims_79 rfl (lv_at hl 4 rfl) ?_
      refine lv_iload hx hb dX5_claims_80 (lv_at hl 0 rfl) ?_
      refine lv_isub hx hb dX5_claims_82 ?_
      refine mo_callv (va_runV (As := [.int (b01 (¬ (x ≤ x))), .int 7, .int (x - x)]) (rest := []) ⟨hx, hb, hml, hown, hts⟩ (met_X5_hinders l G hM (¬ (x ≤ x)) 7 (x - x) ) (cwV 3 hts (lw_V q2669 q2671 qs48 q106 q2672) rfl rfl rfl (by decide +kernel) ⟨Nat.le_of_ble_eq_true rfl, Nat.le_of_ble_eq_true rfl⟩) (hv_preV hw pk_X5 hM.1) rfl rfl hl.1 rfl (lv_room (Nat.le_of_ble_eq_true rfl)) dX5_claims_83 ⟨Nat.le_of_ble_eq_true rfl, Nat.le_of_ble_eq_true rfl⟩) hw hF (fun hh H locs hM hF hw => ?_)
      rw [mo_hin_r ((by rw [hm9.1]; exact hm9.2.1))] at hM
      refine lv_aload_n hx hb dX5_claims_86 rfl (lv_at hl 1 rfl) ?_
      refine mo_get hx hb hts hown hw hM 16 (by decide) q2570 rfl (v := .int 2) rfl dX5_claims_87 ?_
      refine lv_if_eq (tgt := 95) hx hb dX5_claims_90 (by decide) (fun c => absurd c (by decide)) (fun _ => ?_)
      refine lv_iconst (v := 0) hx hb dX5_claims_93 (by decide) ?_
      exact hret rfl hw ⟨_, (by unfold i_claims o_at o_slot; simp only [o_n_nI (show nc < 2 ^ 31 by omega)]; rw [if_neg hP16, if_pos hP34]; exact hm9 : m_inn σ (i_claims (σ.2 0) (nI nc) k x pr) (mo_st (mo_st σ 16 2) 17 k) (0)), hM, hF⟩ (Nat.le_of_ble_eq_true rfl) (Nat.le_of_ble_eq_true rfl) dX5_claims_94
    · skip
      rw [mo_hin_f hP34] at hM
      obtain ⟨nk, hnk, rfl⟩ := o_ix (Decidable.not_not.mp hP34) (show (2 : Int32) = nI 3 - 1 by decide) (by omega)
      refine lv_aload_n hx hb dX5_claims_37 rfl (lv_at hl 0 rfl) ?_
      refine lv_iload_n hx hb dX5_claims_38 rfl (lv_at hl 3 rfl) ?_
      refine lv_iconst (v := 1) hx hb dX5_claims_39 (by decide) ?_
      refine lv_sipush (v := 9999) hx hb dX5_claims_40 (by decide) ?_
      refine mo_callv (va_runV (As := [.int x, .int 1, .int 9999]) (rest := []) ⟨hx, hb, hml, hown, hts⟩ (met_X5_hindersRange l G hM x 1 9999 ) (cwV 3 hts (lw_V q2662 q2664 qs47 q106 q2665) rfl rfl rfl (by decide +kernel) ⟨Nat.le_of_ble_eq_true rfl, Nat.le_of_ble_eq_true rfl⟩) (hv_preV hw pk_X5 hM.1) rfl rfl hl.1 rfl (lv_room (Nat.le_of_ble_eq_true rfl)) dX5_claims_43 ⟨Nat.le_of_ble_eq_true rfl, Nat.le_of_ble_eq_true rfl⟩) hw hF (fun hh H locs hM hF hw => ?_)
      by_cases hP43 : ¬ (1 ≤ x ∧ x ≤ 9999)
      · skip
        rw [mo_hin_t hP43 h16] at hM
        have hm9 := m_ref.of σ (w := 3) (t := x) (by decide)
        refine lv_aload_n hx hb dX5_claims_46 rfl (lv_at hl 0 rfl) ?_
        refine mo_get hx hb hts hown hw hM 16 (by decide) q2570 rfl (v := .int 3) rfl dX5_claims_47 ?_
        refine lv_if_ne (tgt := 62) hx hb dX5_claims_50 (by decide) (fun _ => ?_) (fun c => absurd c (by decide))
        refine lv_iload_n hx hb dX5_claims_62 rfl (lv_at hl 3 rfl) ?_
        refine lv_istore (lv' := [(5, .int x), (0, .ref o), (1, .int (nI nc)), (2, .int (nI nk)), (3, .int x), (4, .int (b01 pr))]) hx hb dX5_claims_63 hl (by decide) rfl (fun ls hl => ?_)
        refine lv_aload_n hx hb dX5_claims_65 rfl (lv_at hl 1 rfl) ?_
        refine lv_iload hx hb dX5_claims_66 (lv_at hl 0 rfl) ?_
        refine lv_iload_n hx hb dX5_claims_68 rfl (lv_at hl 4 rfl) ?_
        refine lv_mat0 (P := x ≤ x) (j := 77) (fun k1 k2 => lv_icmp_ge (tgt := 76) hx hb dX5_claims_69 (by decide) (fun c => lv_iconst (v := 0) hx hb dX5_claims_76 (by decide) (k1 c)) (fun c => lv_iconst (v := 1) hx hb dX5_claims_72 (by decide) (lv_goto (tgt := 77) hx hb dX5_claims_73 (by decide) (k2 c)))) ?_
        refine lv_bipush (v := 7) hx hb dX5_claims_77 (by decide) ?_
        refine lv_iload_n hx hb dX5_claims_79 rfl (lv_at hl 4 rfl) ?_
        refine lv_iload hx hb dX5_claims_80 (lv_at hl 0 rfl) ?_
        refine lv_isub hx hb dX5_claims_82 ?_
        refine mo_callv (va_runV (As := [.int (b01 (¬ (x ≤ x))), .int 7, .int (x - x)]) (rest := []) ⟨hx, hb, hml, hown, hts⟩ (met_X5_hinders l G hM (¬ (x ≤ x)) 7 (x - x) ) (cwV 3 hts (lw_V q2669 q2671 qs48 q106 q2672) rfl rfl rfl (by decide +kernel) ⟨Nat.le_of_ble_eq_true rfl, Nat.le_of_ble_eq_true rfl⟩) (hv_preV hw pk_X5 hM.1) rfl rfl hl.1 rfl (lv_room (Nat.le_of_ble_eq_true rfl)) dX5_claims_83 ⟨Nat.le_of_ble_eq_true rfl, Nat.le_of_ble_eq_true rfl⟩) hw hF (fun hh H locs hM hF hw => ?_)
        rw [mo_hin_r ((by rw [hm9.1]; exact hm9.2.1))] at hM
        refine lv_aload_n hx hb dX5_claims_86 rfl (lv_at hl 1 rfl) ?_
        refine mo_get hx hb hts hown hw hM 16 (by decide) q2570 rfl (v := .int 3) rfl dX5_claims_87 ?_
        refine lv_if_eq (tgt := 95) hx hb dX5_claims_90 (by decide) (fun c => absurd c (by decide)) (fun _ => ?_)
        refine lv_iconst (v := 0) hx hb dX5_claims_93 (by decide) ?_
        exact hret rfl hw ⟨_, (by unfold i_claims o_at o_slot; simp only [o_n_nI (show nc < 2 ^ 31 by omega), o_n_nI (show nk < 2 ^ 31 by omega)]; rw [if_neg hP16, if_neg hP34, if_pos hP43]; exact hm9 : m_inn σ (i_claims (σ.2 0) (nI nc) (nI nk) x pr) (mo_st (mo_st σ 16 3) 17 x) (0)), hM, hF⟩ (Nat.le_of_ble_eq_true rfl) (Nat.le_of_ble_eq_true rfl) dX5_claims_94
      · skip
        rw [mo_hin_f hP43] at hM
        refine lv_aload_n hx hb dX5_claims_46 rfl (lv_at hl 0 rfl) ?_
        refine mo_get hx hb hts hown hw hM 16 (by decide) q2570 rfl (v := .int (σ.1 16)) rfl dX5_claims_47 ?_
        refine lv_tope (y := 0) (h16) ?_
        refine lv_if_ne (tgt := 62) hx hb dX5_claims_50 (by decide) (fun c => absurd c (by decide)) (fun _ => ?_)
        refine lv_aload_n hx hb dX5_claims_53 rfl (lv_at hl 0 rfl) ?_
        refine lv_iload_n hx hb dX5_claims_54 rfl (lv_at hl 1 rfl) ?_
        refine lv_iconst (v := 1) hx hb dX5_claims_55 (by decide) ?_
        refine hv_callir (va_runV (As := [.int (nI nc), .int 1]) (rest := []) ⟨hx, hb, hml, hown, hts⟩ (met_X5_of l G hM nc 1 (show 23 + 19 * nc + 1 < 137 by omega)) (cwV 2 hts (lw_V q2740 q2742 qs59 q106 q2743) rfl rfl rfl (by decide +kernel) ⟨Nat.le_of_ble_eq_true rfl, Nat.le_of_ble_eq_true rfl⟩) (hv_preV hw pk_X5 hM.1) rfl rfl hl.1 rfl (lv_room (Nat.le_of_ble_eq_true rfl)) dX5_claims_56 ⟨Nat.le_of_ble_eq_true rfl, Nat.le_of_ble_eq_true rfl⟩) hw (fun H locs hw => ?_)
        refine lv_goto (tgt := 63) hx hb dX5_claims_59 (by decide) ?_
        refine lv_istore (lv' := [(5, .int (σ.2 0 (23 + 19 * nc + 1))), (0, .ref o), (1, .int (nI nc)), (2, .int (nI nk)), (3, .int x), (4, .int (b01 pr))]) hx hb dX5_claims_63 hl (by decide) rfl (fun ls hl => ?_)
        refine lv_aload_n hx hb dX5_claims_65 rfl (lv_at hl 1 rfl) ?_
        refine lv_iload hx hb dX5_claims_66 (lv_at hl 0 rfl) ?_
        refine lv_iload_n hx hb dX5_claims_68 rfl (lv_at hl 4 rfl) ?_
        refine lv_mat0 (P := x ≤ (σ.2 0 (23 + 19 * nc + 1))) (j := 77) (fun k1 k2 => lv_icmp_ge (tgt := 76) hx hb dX5_claims_69 (by decide) (fun c => lv_iconst (v := 0) hx hb dX5_claims_76 (by decide) (k1 c)) (fun c => lv_iconst (v := 1) hx hb dX5_claims_72 (by decide) (lv_goto (tgt := 77) hx hb dX5_claims_73 (by decide) (k2 c)))) ?_
        refine lv_bipush (v := 7) hx hb dX5_claims_77 (by decide) ?_
        refine lv_iload_n hx hb dX5_claims_79 rfl (lv_at hl 4 rfl) ?_
        refine lv_iload hx hb dX5_claims_80 (lv_at hl 0 rfl) ?_
        refine lv_isub hx hb dX5_claims_82 ?_
        refine mo_callv (va_runV (As := [.int (b01 (¬ (x ≤ (σ.2 0 (23 + 19 * nc + 1))))), .int 7, .int (x - (σ.2 0 (23 + 19 * nc + 1)))]) (rest := []) ⟨hx, hb, hml, hown, hts⟩ (met_X5_hinders l G hM (¬ (x ≤ (σ.2 0 (23 + 19 * nc + 1)))) 7 (x - (σ.2 0 (23 + 19 * nc + 1))) ) (cwV 3 hts (lw_V q2669 q2671 qs48 q106 q2672) rfl rfl rfl (by decide +kernel) ⟨Nat.le_of_ble_eq_true rfl, Nat.le_of_ble_eq_true rfl⟩) (hv_preV hw pk_X5 hM.1) rfl rfl hl.1 rfl (lv_room (Nat.le_of_ble_eq_true rfl)) dX5_claims_83 ⟨Nat.le_of_ble_eq_true rfl, Nat.le_of_ble_eq_true rfl⟩) hw hF (fun hh H locs hM hF hw => ?_)
        by_cases hP83 : ¬ (x ≤ (σ.2 0 (23 + 19 * nc + 1)))
        · skip
          rw [mo_hin_t hP83 h16] at hM
          have hm9 := m_ref.of σ (w := 7) (t := (x - (σ.2 0 (23 + 19 * nc + 1)))) (by decide)
          refine lv_aload_n hx hb dX5_claims_86 rfl (lv_at hl 1 rfl) ?_
          refine mo_get hx hb hts hown hw hM 16 (by decide) q2570 rfl (v := .int 7) rfl dX5_claims_87 ?_
          refine lv_if_eq (tgt := 95) hx hb dX5_claims_90 (by decide) (fun c => absurd c (by decide)) (fun _ => ?_)
          refine lv_iconst (v := 0) hx hb dX5_claims_93 (by decide) ?_
          exact hret rfl hw ⟨_, (by unfold i_claims o_at o_slot; simp only [o_n_nI (show nc < 2 ^ 31 by omega), o_n_nI (show nk < 2 ^ 31 by omega)]; rw [if_neg hP16, if_neg hP34, if_neg hP43, if_pos hP83]; exact hm9 : m_inn σ (i_claims (σ.2 0) (nI nc) (nI nk) x pr) (mo_st (mo_st σ 16 7) 17 (x - (σ.2 0 (23 + 19 * nc + 1)))) (0)), hM, hF⟩ (Nat.le_of_ble_eq_true rfl) (Nat.le_of_ble_eq_true rfl) dX5_claims_94
        · skip
          rw [mo_hin_f hP83] at hM
          refine lv_aload_n hx hb dX5_claims_86 rfl (lv_at hl 1 rfl) ?_
          refine mo_get hx hb hts hown hw hM 16 (by decide) q2570 rfl (v := .int (σ.1 16)) rfl dX5_claims_87 ?_
          refine lv_tope (y := 0) (h16) ?_
          refine lv_if_eq (tgt := 95) hx hb dX5_claims_90 (by decide) (fun _ => ?_) (fun c => absurd c (by decide))
          refine lv_aload_n hx hb dX5_claims_95 rfl (lv_at hl 1 rfl) ?_
          refine lv_iload_n hx hb dX5_claims_96 rfl (lv_at hl 2 rfl) ?_
          refine lv_iconst (v := 1) hx hb dX5_claims_97 (by decide) ?_
          refine lv_iload_n hx hb dX5_claims_98 rfl (lv_at hl 4 rfl) ?_
          refine lv_ineg hx hb dX5_claims_99 ?_
          refine mo_callv (va_runV (As := [.int (nI nc), .int 1, .int (-x)]) (rest := []) ⟨hx, hb, hml, hown, hts⟩ (met_X5_gets l G hM nc 1 (-x) (show 23 + 19 * nc + 1 < 137 by omega) (σ.2 0 (23 + 19 * nc + 1)) rfl) (cwV 3 hts (lw_V q2748 q2750 qs61 q106 q2751) rfl rfl rfl (by decide +kernel) ⟨Nat.le_of_ble_eq_true rfl, Nat.le_of_ble_eq_true rfl⟩) (hv_preV hw pk_X5 hM.1) rfl rfl hl.1 rfl (lv_room (Nat.le_of_ble_eq_true rfl)) dX5_claims_100 ⟨Nat.le_of_ble_eq_true rfl, Nat.le_of_ble_eq_true rfl⟩) hw hF (fun hh H locs hM hF hw => ?_)
          refine lv_aload_n hx hb dX5_claims_103 rfl (lv_at hl 1 rfl) ?_
          refine lv_iload_n hx hb dX5_claims_104 rfl (lv_at hl 2 rfl) ?_
          refine lv_bipush (v := 13) hx hb dX5_claims_105 (by decide) ?_
          refine lv_iconst (v := 2) hx hb dX5_claims_107 (by decide) ?_
          refine lv_iload_n hx hb dX5_claims_108 rfl (lv_at hl 3 rfl) ?_
          refine lv_imul hx hb dX5_claims_109 ?_
          refine lv_tope (y := nI (2 * nk)) (by simp only [nI, Int32.ofNat_add, Int32.ofNat_mul] <;> rfl) ?_
          refine lv_iadd hx hb dX5_claims_110 ?_
          refine lv_tope (y := nI (13 + 2 * nk)) (by simp only [nI, Int32.ofNat_add, Int32.ofNat_mul] <;> rfl) ?_
          refine lv_iload hx hb dX5_claims_111 (lv_at hl 5 rfl) ?_
          refine lv_if_eq (tgt := 120) hx hb dX5_claims_113 (by decide) (fun c113 => ?_) (fun c113 => ?_)
          · skip
            have c113 : ¬ (pr) := b01_0.mp c113
            refine lv_iconst (v := 1) hx hb dX5_claims_120 (by decide) ?_
            refine lv_iadd hx hb dX5_claims_121 ?_
            refine lv_tope (y := nI (13 + 2 * nk + 1)) (by simp only [nI, Int32.ofNat_add, Int32.ofNat_mul] <;> rfl) ?_
            refine lv_iload_n hx hb dX5_claims_122 rfl (lv_at hl 4 rfl) ?_
            refine mo_callv (va_runV (As := [.int (nI nc), .int (nI (13 + 2 * nk + 1)), .int x]) (rest := []) ⟨hx, hb, hml, hown, hts⟩ (met_X5_gets l G hM nc (13 + 2 * nk + 1) x (show 23 + 19 * nc + (13 + 2 * nk + 1) < 137 by omega) (σ.2 0 (23 + 19 * nc + (13 + 2 * nk + 1))) (mo_sa_ne (show 23 + 19 * nc + (13 + 2 * nk + 1) ≠ (23 + 19 * nc + 1) by omega))) (cwV 3 hts (lw_V q2748 q2750 qs61 q106 q2751) rfl rfl rfl (by decide +kernel) ⟨Nat.le_of_ble_eq_true rfl, Nat.le_of_ble_eq_true rfl⟩) (hv_preV hw pk_X5 hM.1) rfl rfl hl.1 rfl (lv_room (Nat.le_of_ble_eq_true rfl)) dX5_claims_123 ⟨Nat.le_of_ble_eq_true rfl, Nat.le_of_ble_eq_true rfl⟩) hw hF (fun hh H locs hM hF hw => ?_)
            refine lv_aload_n hx hb dX5_claims_126 rfl (lv_at hl 1 rfl) ?_
            refine mo_get hx hb hts hown hw hM 0 (by decide) q2554 rfl (v := .ref (ma 0)) rfl dX5_claims_127 ?_
            refine lv_bipush (v := 9) hx hb dX5_claims_130 (by decide) ?_
            refine lv_dup2_11 hx hb dX5_claims_132 rfl rfl ?_
            refine mo_ald hx hb hw hM 0 rfl (j := 9) rfl (show 9 < 137 by omega) dX5_claims_133 ?_
            refine lv_tope (y := σ.2 0 9) (((mo_sa_ne (show 9 ≠ (23 + 19 * nc + (13 + 2 * nk + 1)) by omega)).trans (mo_sa_ne (show 9 ≠ (23 + 19 * nc + 1) by omega)))) ?_
            refine lv_iload_n hx hb dX5_claims_134 rfl (lv_at hl 4 rfl) ?_
            refine lv_iadd hx hb dX5_claims_135 ?_
            refine mo_ast hx hb hw hM hF 0 rfl (j := 9) rfl (show 9 < 137 by omega) dX5_claims_136 (fun hh H locs hM hF hw => ?_)
            refine lv_aload_n hx hb dX5_claims_137 rfl (lv_at hl 1 rfl) ?_
            refine lv_iload_n hx hb dX5_claims_138 rfl (lv_at hl 2 rfl) ?_
            refine lv_iload_n hx hb dX5_claims_139 rfl (lv_at hl 3 rfl) ?_
            refine lv_iconst (v := 0) hx hb dX5_claims_140 (by decide) ?_
            refine hv_callir (va_runV (As := [.int (nI nc), .int (nI nk), .int 0]) (rest := []) ⟨hx, hb, hml, hown, hts⟩ (met_X5_countsOf l G hM nc nk (False) (show nc < 6 by omega) (show nk < 3 by omega)) (cwV 3 hts (lw_V q2760 q2762 qs63 q106 q2763) rfl rfl rfl (by decide +kernel) ⟨Nat.le_of_ble_eq_true rfl, Nat.le_of_ble_eq_true rfl⟩) (hv_preV hw pk_X5 hM.1) rfl rfl hl.1 rfl (lv_room (Nat.le_of_ble_eq_true rfl)) dX5_claims_141 ⟨Nat.le_of_ble_eq_true rfl, Nat.le_of_ble_eq_true rfl⟩) hw (fun H locs hw => ?_)
            exact hret rfl hw ⟨_, (by unfold i_claims o_at o_slot; simp only [o_n_nI (show nc < 2 ^ 31 by omega), o_n_nI (show nk < 2 ^ 31 by omega)]; rw [if_neg hP16, if_neg hP34, if_neg hP43, if_neg hP83]; simp only [if_neg c113]; exact ⟨by simp only [mo_sa_na, mo_na_na, mo_na_2], by first | rfl | simp only [mo_sa_na, mo_na_na, mo_na_2]⟩ : m_inn σ (i_claims (σ.2 0) (nI nc) (nI nk) x pr) (mo_sa (mo_sa (mo_sa σ 0 (23 + 19 * nc + 1) (σ.2 0 (23 + 19 * nc + 1) + (-x))) 0 (23 + 19 * nc + (13 + 2 * nk + 1)) (σ.2 0 (23 + 19 * nc + (13 + 2 * nk + 1)) + x)) 0 9 ((σ.2 0 9) + x)) (o_cts ((mo_sa (mo_sa (mo_sa σ 0 (23 + 19 * nc + 1) (σ.2 0 (23 + 19 * nc + 1) + (-x))) 0 (23 + 19 * nc + (13 + 2 * nk + 1)) (σ.2 0 (23 + 19 * nc + (13 + 2 * nk + 1)) + x)) 0 9 ((σ.2 0 9) + x)).2 0) nc (False) nk)), hM, hF⟩ (Nat.le_of_ble_eq_true rfl) (Nat.le_of_ble_eq_true rfl) dX5_claims_144
          · skip
            have c113 : pr := b01_n.mp c113
            refine lv_iconst (v := 0) hx hb dX5_claims_116 (by decide) ?_
            refine lv_goto (tgt := 121) hx hb dX5_claims_117 (by decide) ?_
            refine lv_iadd hx hb dX5_claims_121 ?_
            refine lv_tope (y := nI (13 + 2 * nk + 0)) (by simp only [nI, Int32.ofNat_add, Int32.ofNat_mul] <;> rfl) ?_
            refine lv_iload_n hx hb dX5_claims_122 rfl (lv_at hl 4 rfl) ?_
            refine mo_callv (va_runV (As := [.int (nI nc), .int (nI (13 + 2 * nk + 0)), .int x]) (rest := []) ⟨hx, hb, hml, hown, hts⟩ (met_X5_gets l G hM nc (13 + 2 * nk + 0) x (show 23 + 19 * nc + (13 + 2 * nk + 0) < 137 by omega) (σ.2 0 (23 + 19 * nc + (13 + 2 * nk + 0))) (mo_sa_ne (show 23 + 19 * nc + (13 + 2 * nk + 0) ≠ (23 + 19 * nc + 1) by omega))) (cwV 3 hts (lw_V q2748 q2750 qs61 q106 q2751) rfl rfl rfl (by decide +kernel) ⟨Nat.le_of_ble_eq_true rfl, Nat.le_of_ble_eq_true rfl⟩) (hv_preV hw pk_X5 hM.1) rfl rfl hl.1 rfl (lv_room (Nat.le_of_ble_eq_true rfl)) dX5_claims_123 ⟨Nat.le_of_ble_eq_true rfl, Nat.le_of_ble_eq_true rfl⟩) hw hF (fun hh H locs hM hF hw => ?_)
            refine lv_aload_n hx hb dX5_claims_126 rfl (lv_at hl 1 rfl) ?_
            refine mo_get hx hb hts hown hw hM 0 (by decide) q2554 rfl (v := .ref (ma 0)) rfl dX5_claims_127 ?_
            refine lv_bipush (v := 9) hx hb dX5_claims_130 (by decide) ?_
            refine lv_dup2_11 hx hb dX5_claims_132 rfl rfl ?_
            refine mo_ald hx hb hw hM 0 rfl (j := 9) rfl (show 9 < 137 by omega) dX5_claims_133 ?_
            refine lv_tope (y := σ.2 0 9) (((mo_sa_ne (show 9 ≠ (23 + 19 * nc + (13 + 2 * nk + 0)) by omega)).trans (mo_sa_ne (show 9 ≠ (23 + 19 * nc + 1) by omega)))) ?_
            refine lv_iload_n hx hb dX5_claims_134 rfl (lv_at hl 4 rfl) ?_
            refine lv_iadd hx hb dX5_claims_135 ?_
            refine mo_ast hx hb hw hM hF 0 rfl (j := 9) rfl (show 9 < 137 by omega) dX5_claims_136 (fun hh H locs hM hF hw => ?_)
            refine lv_aload_n hx hb dX5_claims_137 rfl (lv_at hl 1 rfl) ?_
            refine lv_iload_n hx hb dX5_claims_138 rfl (lv_at hl 2 rfl) ?_
            refine lv_iload_n hx hb dX5_claims_139 rfl (lv_at hl 3 rfl) ?_
            refine lv_iconst (v := 0) hx hb dX5_claims_140 (by decide) ?_
            refine hv_callir (va_runV (As := [.int (nI nc), .int (nI nk), .int 0]) (rest := []) ⟨hx, hb, hml, hown, hts⟩ (met_X5_countsOf l G hM nc nk (False) (show nc < 6 by omega) (show nk < 3 by omega)) (cwV 3 hts (lw_V q2760 q2762 qs63 q106 q2763) rfl rfl rfl (by decide +kernel) ⟨Nat.le_of_ble_eq_true rfl, Nat.le_of_ble_eq_true rfl⟩) (hv_preV hw pk_X5 hM.1) rfl rfl hl.1 rfl (lv_room (Nat.le_of_ble_eq_true rfl)) dX5_claims_141 ⟨Nat.le_of_ble_eq_true rfl, Nat.le_of_ble_eq_true rfl⟩) hw (fun H locs hw => ?_)
            exact hret rfl hw ⟨_, (by unfold i_claims o_at o_slot; simp only [o_n_nI (show nc < 2 ^ 31 by omega), o_n_nI (show nk < 2 ^ 31 by omega)]; rw [if_neg hP16, if_neg hP34, if_neg hP43, if_neg hP83]; simp only [if_pos c113]; exact ⟨by simp only [mo_sa_na, mo_na_na, mo_na_2], by first | rfl | simp only [mo_sa_na, mo_na_na, mo_na_2]⟩ : m_inn σ (i_claims (σ.2 0) (nI nc) (nI nk) x pr) (mo_sa (mo_sa (mo_sa σ 0 (23 + 19 * nc + 1) (σ.2 0 (23 + 19 * nc + 1) + (-x))) 0 (23 + 19 * nc + (13 + 2 * nk + 0)) (σ.2 0 (23 + 19 * nc + (13 + 2 * nk + 0)) + x)) 0 9 ((σ.2 0 9) + x)) (o_cts ((mo_sa (mo_sa (mo_sa σ 0 (23 + 19 * nc + 1) (σ.2 0 (23 + 19 * nc + 1) + (-x))) 0 (23 + 19 * nc + (13 + 2 * nk + 0)) (σ.2 0 (23 + 19 * nc + (13 + 2 * nk + 0)) + x)) 0 9 ((σ.2 0 9) + x)).2 0) nc (False) nk)), hM, hF⟩ (Nat.le_of_ble_eq_true rfl) (Nat.le_of_ble_eq_true rfl) dX5_claims_144
set_option maxHeartbeats 1000000 in
theorem met_X5_drops (l : Launch) (G : hG) {h : hp} {o : Nat} {ma : Nat → Nat} {σ : MS} (hM : isMod G h o ma σ) (b : Int32) (hok : okI (σ.2 0)) (h16 : σ.1 16 = 0) : hv_Mi l G yX5_drops (ws_ yX5_drops cX5_drops 4 (Option.some Jvm.ClassFile.FieldType.int)) ({ frames := 2, cells := 0, slots := 0, locals := 43 } : Room) [.ref o, .int b] h (fun r hh => ∃ σ2, (m_inn σ (i_drops (σ.2 0) b) σ2 r) ∧ isMod G hh o ma σ2 ∧ mo_fr o ma h hh) := by
  refine hv_bi .int (Or.inl rfl) (own := RX5) (by decide +kernel) rfl (Nat.le_of_ble_eq_true rfl) (fun p e s m a below meth c ls Q hx hb hml hown hts hnm hret hw hl => ?_)
  have hl : lv_has ls 4 [(0, .ref o), (1, .int b)] := hl
  have hF : mo_fr o ma h h := mo_fr.rf
  have hmx : o_many (σ.2 0) ≤ 5 := hok.2.2.1
  have hpx : o_people (σ.2 0) ≤ 6 := hok.2.2.2.2.1
  have hm1 := hok.2.1
  have hq1 := hok.1
  refine lv_aload_n hx hb dX5_drops_0 rfl (lv_at hl 0 rfl) ?_
  refine lv_aload_n hx hb dX5_drops_1 rfl (lv_at hl 0 rfl) ?_
  refine lv_iload_n hx hb dX5_drops_2 rfl (lv_at hl 1 rfl) ?_
  refine hv_callir (va_runV (As := [.int b]) (rest := [.ref o]) ⟨hx, hb, hml, hown, hts⟩ (met_X5_isBracket l G hM b ) (cwV 1 hts (lw_V q2693 q2695 qs53 q106 q2696) rfl rfl rfl (by decide +kernel) ⟨Nat.le_of_ble_eq_true rfl, Nat.le_of_ble_eq_true rfl⟩) (hv_preV hw pk_X5 hM.1) rfl rfl hl.1 rfl (lv_room (Nat.le_of_ble_eq_true rfl)) dX5_drops_3 ⟨Nat.le_of_ble_eq_true rfl, Nat.le_of_ble_eq_true rfl⟩) hw (fun H locs hw => ?_)
  refine lv_mat1 (P := (b01 (0 ≤ b ∧ b ≤ σ.2 0 1 - 1)) = 0) (j := 14) (fun k1 k2 => lv_if_ne (tgt := 13) hx hb dX5_drops_6 (by decide) (fun c => lv_iconst (v := 0) hx hb dX5_drops_13 (by decide) (k2 c)) (fun c => lv_iconst (v := 1) hx hb dX5_drops_9 (by decide) (lv_goto (tgt := 14) hx hb dX5_drops_10 (by decide) (k1 c)))) ?_
  refine lv_tope (y := b01 (¬ (0 ≤ b ∧ b ≤ σ.2 0 1 - 1))) (b01_c b01_0) ?_
  refine lv_iconst (v := 2) hx hb dX5_drops_14 (by decide) ?_
  refine lv_iload_n hx hb dX5_drops_15 rfl (lv_at hl 1 rfl) ?_
  refine mo_callv (va_runV (As := [.int (b01 (¬ (0 ≤ b ∧ b ≤ σ.2 0 1 - 1))), .int 2, .int b]) (rest := []) ⟨hx, hb, hml, hown, hts⟩ (met_X5_hinders l G hM (¬ (0 ≤ b ∧ b ≤ σ.2 0 1 - 1)) 2 b ) (cwV 3 hts (lw_V q2669 q2671 qs48 q106 q2672) rfl rfl rfl (by decide +kernel) ⟨Nat.le_of_ble_eq_true rfl, Nat.le_of_ble_eq_true rfl⟩) (hv_preV hw pk_X5 hM.1) rfl rfl hl.1 rfl (lv_room (Nat.le_of_ble_eq_true rfl)) dX5_drops_16 ⟨Nat.le_of_ble_eq_true rfl, Nat.le_of_ble_eq_true rfl⟩) hw hF (fun hh H locs hM hF hw => ?_)
  by_cases hP16 : ¬ (0 ≤ b ∧ b ≤ σ.2 0 1 - 1)
  · skip
    rw [mo_hin_t hP16 h16] at hM
    have hm9 := m_ref.of σ (w := 2) (t := b) (by decide)
    refine lv_aload_n hx hb dX5_drops_19 rfl (lv_at hl 0 rfl) ?_
    refine lv_iload_n hx hb dX5_drops_20 rfl (lv_at hl 1 rfl) ?_
    refine lv_mat1 (P := b = 0) (j := 29) (fun k1 k2 => lv_if_ne (tgt := 28) hx hb dX5_drops_21 (by decide) (fun c => lv_iconst (v := 0) hx hb dX5_drops_28 (by decide) (k2 c)) (fun c => lv_iconst (v := 1) hx hb dX5_drops_24 (by decide) (lv_goto (tgt := 29) hx hb dX5_drops_25 (by decide) (k1 c)))) ?_
    refine lv_iconst (v := 5) hx hb dX5_drops_29 (by decide) ?_
    refine lv_aload_n hx hb dX5_drops_30 rfl (lv_at hl 0 rfl) ?_
    refine lv_iconst (v := 0) hx hb dX5_drops_31 (by decide) ?_
    refine hv_callir (va_runV (As := [.int 0]) (rest := [.int 5, .int (b01 (b = 0)), .ref o]) ⟨hx, hb, hml, hown, hts⟩ (met_X5_rateOf l G hM 0 (show 13 + 2 * 0 + 1 < 137 by omega)) (cwV 1 hts (lw_V q2697 q2699 qs54 q106 q2700) rfl rfl rfl (by decide +kernel) ⟨Nat.le_of_ble_eq_true rfl, Nat.le_of_ble_eq_true rfl⟩) (hv_preV hw pk_X5 hM.1) rfl rfl hl.1 rfl (lv_room (Nat.le_of_ble_eq_true rfl)) dX5_drops_32 ⟨Nat.le_of_ble_eq_true rfl, Nat.le_of_ble_eq_true rfl⟩) hw (fun H locs hw => ?_)
    refine mo_callv (va_runV (As := [.int (b01 (b = 0)), .int 5, .int (σ.2 0 (13 + 2 * 0 + 1))]) (rest := []) ⟨hx, hb, hml, hown, hts⟩ (met_X5_hinders l G hM (b = 0) 5 (σ.2 0 (13 + 2 * 0 + 1)) ) (cwV 3 hts (lw_V q2669 q2671 qs48 q106 q2672) rfl rfl rfl (by decide +kernel) ⟨Nat.le_of_ble_eq_true rfl, Nat.le_of_ble_eq_true rfl⟩) (hv_preV hw pk_X5 hM.1) rfl rfl hl.1 rfl (lv_room (Nat.le_of_ble_eq_true rfl)) dX5_drops_35 ⟨Nat.le_of_ble_eq_true rfl, Nat.le_of_ble_eq_true rfl⟩) hw hF (fun hh H locs hM hF hw => ?_)
    rw [mo_hin_r ((by rw [hm9.1]; exact hm9.2.1))] at hM
    refine lv_aload_n hx hb dX5_drops_38 rfl (lv_at hl 0 rfl) ?_
    refine mo_get hx hb hts hown hw hM 16 (by decide) q2570 rfl (v := .int 2) rfl dX5_drops_39 ?_
    refine lv_if_ne (tgt := 53) hx hb dX5_drops_42 (by decide) (fun _ => ?_) (fun c => absurd c (by decide))
    refine lv_iconst (v := 0) hx hb dX5_drops_53 (by decide) ?_
    refine lv_istore_n (lv' := [(2, .int 0), (0, .ref o), (1, .int b)]) hx hb dX5_drops_54 rfl hl (by decide) rfl (fun ls hl => ?_)
    refine lv_iconst (v := 2) hx hb dX5_drops_55 (by decide) ?_
    refine lv_iload_n hx hb dX5_drops_56 rfl (lv_at hl 2 rfl) ?_
    refine lv_imul hx hb dX5_drops_57 ?_
    refine lv_istore_n (lv' := [(3, .int (2 * b)), (2, .int 0), (0, .ref o), (1, .int b)]) hx hb dX5_drops_58 rfl hl (by decide) rfl (fun ls hl => ?_)
    refine lv_iload_n hx hb dX5_drops_59 rfl (lv_at hl 0 rfl) ?_
    refine lv_iconst (v := 2) hx hb dX5_drops_60 (by decide) ?_
    refine lv_aload_n hx hb dX5_drops_61 rfl (lv_at hl 2 rfl) ?_
    refine mo_get hx hb hts hown hw hM 0 (by decide) q2554 rfl (v := .ref (ma 0)) rfl dX5_drops_62 ?_
    refine lv_iconst (v := 1) hx hb dX5_drops_65 (by decide) ?_
    refine mo_ald hx hb hw hM 0 rfl (j := 1) rfl (show 1 < 137 by omega) dX5_drops_66 ?_
    refine lv_imul hx hb dX5_drops_67 ?_
    refine lv_iconst (v := 2) hx hb dX5_drops_68 (by decide) ?_
    refine lv_isub hx hb dX5_drops_69 ?_
    refine lv_icmp_ge (tgt := 106) hx hb dX5_drops_70 (by decide) (fun c70 => ?_) (fun c70 => ?_)
    · skip
      refine lv_aload_n hx hb dX5_drops_106 rfl (lv_at hl 2 rfl) ?_
      refine mo_get hx hb hts hown hw hM 0 (by decide) q2554 rfl (v := .ref (ma 0)) rfl dX5_drops_107 ?_
      refine lv_iconst (v := 1) hx hb dX5_drops_110 (by decide) ?_
      refine lv_dup2_11 hx hb dX5_drops_111 rfl rfl ?_
      refine mo_ald hx hb hw hM 0 rfl (j := 1) rfl (show 1 < 137 by omega) dX5_drops_112 ?_
      refine lv_iconst (v := 1) hx hb dX5_drops_113 (by decide) ?_
      refine lv_isub hx hb dX5_drops_114 ?_
      refine mo_ast hx hb hw hM hF 0 rfl (j := 1) rfl (show 1 < 137 by omega) dX5_drops_115 (fun hh H locs hM hF hw => ?_)
      refine lv_iload_n hx hb dX5_drops_116 rfl (lv_at hl 1 rfl) ?_
      exact hret rfl hw ⟨_, (by unfold i_drops; rw [if_pos hP16]; exact (hm9.sa _ _) : m_inn σ (i_drops (σ.2 0) b) (mo_sa (mo_st (mo_st σ 16 2) 17 b) 0 1 ((σ.2 0 1) - 1)) (0)), hM, hF⟩ (Nat.le_of_ble_eq_true rfl) (Nat.le_of_ble_eq_true rfl) dX5_drops_117
    · skip
      refine lv_aload_n hx hb dX5_drops_73 rfl (lv_at hl 2 rfl) ?_
      refine mo_get hx hb hts hown hw hM 16 (by decide) q2570 rfl (v := .int 2) rfl dX5_drops_74 ?_
      refine lv_if_ne (tgt := 106) hx hb dX5_drops_77 (by decide) (fun _ => ?_) (fun c => absurd c (by decide))
      refine lv_aload_n hx hb dX5_drops_106 rfl (lv_at hl 2 rfl) ?_
      refine mo_get hx hb hts hown hw hM 0 (by decide) q2554 rfl (v := .ref (ma 0)) rfl dX5_drops_107 ?_
      refine lv_iconst (v := 1) hx hb dX5_drops_110 (by decide) ?_
      refine lv_dup2_11 hx hb dX5_drops_111 rfl rfl ?_
      refine mo_ald hx hb hw hM 0 rfl (j := 1) rfl (show 1 < 137 by omega) dX5_drops_112 ?_
      refine lv_iconst (v := 1) hx hb dX5_drops_113 (by decide) ?_
      refine lv_isub hx hb dX5_drops_114 ?_
      refine mo_ast hx hb hw hM hF 0 rfl (j := 1) rfl (show 1 < 137 by omega) dX5_drops_115 (fun hh H locs hM hF hw => ?_)
      refine lv_iload_n hx hb dX5_drops_116 rfl (lv_at hl 1 rfl) ?_
      exact hret rfl hw ⟨_, (by unfold i_drops; rw [if_pos hP16]; exact (hm9.sa _ _) : m_inn σ (i_drops (σ.2 0) b) (mo_sa (mo_st (mo_st σ 16 2) 17 b) 0 1 ((σ.2 0 1) - 1)) (0)), hM, hF⟩ (Nat.le_of_ble_eq_true rfl) (Nat.le_of_ble_eq_true rfl) dX5_drops_117
  · skip
    rw [mo_hin_f hP16] at hM
    obtain ⟨nb, hnb, rfl⟩ := o_ix (Decidable.not_not.mp hP16) (congrArg (· - 1) hok.1) (by omega)
    refine lv_aload_n hx hb dX5_drops_19 rfl (lv_at hl 0 rfl) ?_
    refine lv_iload_n hx hb dX5_drops_20 rfl (lv_at hl 1 rfl) ?_
    refine lv_mat1 (P := (nI nb) = 0) (j := 29) (fun k1 k2 => lv_if_ne (tgt := 28) hx hb dX5_drops_21 (by decide) (fun c => lv_iconst (v := 0) hx hb dX5_drops_28 (by decide) (k2 c)) (fun c => lv_iconst (v := 1) hx hb dX5_drops_24 (by decide) (lv_goto (tgt := 29) hx hb dX5_drops_25 (by decide) (k1 c)))) ?_
    refine lv_iconst (v := 5) hx hb dX5_drops_29 (by decide) ?_
    refine lv_aload_n hx hb dX5_drops_30 rfl (lv_at hl 0 rfl) ?_
    refine lv_iconst (v := 0) hx hb dX5_drops_31 (by decide) ?_
    refine hv_callir (va_runV (As := [.int 0]) (rest := [.int 5, .int (b01 ((nI nb) = 0)), .ref o]) ⟨hx, hb, hml, hown, hts⟩ (met_X5_rateOf l G hM 0 (show 13 + 2 * 0 + 1 < 137 by omega)) (cwV 1 hts (lw_V q2697 q2699 qs54 q106 q2700) rfl rfl rfl (by decide +kernel) ⟨Nat.le_of_ble_eq_true rfl, Nat.le_of_ble_eq_true rfl⟩) (hv_preV hw pk_X5 hM.1) rfl rfl hl.1 rfl (lv_room (Nat.le_of_ble_eq_true rfl)) dX5_drops_32 ⟨Nat.le_of_ble_eq_true rfl, Nat.le_of_ble_eq_true rfl⟩) hw (fun H locs hw => ?_)
    refine mo_callv (va_runV (As := [.int (b01 ((nI nb) = 0)), .int 5, .int (σ.2 0 (13 + 2 * 0 + 1))]) (rest := []) ⟨hx, hb, hml, hown, hts⟩ (met_X5_hinders l G hM ((nI nb) = 0) 5 (σ.2 0 (13 + 2 * 0 + 1)) ) (cwV 3 hts (lw_V q2669 q2671 qs48 q106 q2672) rfl rfl rfl (by decide +kernel) ⟨Nat.le_of_ble_eq_true rfl, Nat.le_of_ble_eq_true rfl⟩) (hv_preV hw pk_X5 hM.1) rfl rfl hl.1 rfl (lv_room (Nat.le_of_ble_eq_true rfl)) dX5_drops_35 ⟨Nat.le_of_ble_eq_true rfl, Nat.le_of_ble_eq_true rfl⟩) hw hF (fun hh H locs hM hF hw => ?_)
    by_cases hP35 : (nI nb) = 0
    · skip
      rw [mo_hin_t hP35 h16] at hM
      have hm9 := m_ref.of σ (w := 5) (t := (σ.2 0 (13 + 2 * 0 + 1))) (by decide)
      refine lv_aload_n hx hb dX5_drops_38 rfl (lv_at hl 0 rfl) ?_
      refine mo_get hx hb hts hown hw hM 16 (by decide) q2570 rfl (v := .int 5) rfl dX5_drops_39 ?_
      refine lv_if_ne (tgt := 53) hx hb dX5_drops_42 (by decide) (fun _ => ?_) (fun c => absurd c (by decide))
      refine lv_iconst (v := 0) hx hb dX5_drops_53 (by decide) ?_
      refine lv_istore_n (lv' := [(2, .int 0), (0, .ref o), (1, .int (nI nb))]) hx hb dX5_drops_54 rfl hl (by decide) rfl (fun ls hl => ?_)
      refine lv_iconst (v := 2) hx hb dX5_drops_55 (by decide) ?_
      refine lv_iload_n hx hb dX5_drops_56 rfl (lv_at hl 2 rfl) ?_
      refine lv_imul hx hb dX5_drops_57 ?_
      refine lv_tope (y := nI (2 * nb)) (by simp only [nI, Int32.ofNat_add, Int32.ofNat_mul] <;> rfl) ?_
      refine lv_istore_n (lv' := [(3, .int (nI (2 * nb))), (2, .int 0), (0, .ref o), (1, .int (nI nb))]) hx hb dX5_drops_58 rfl hl (by decide) rfl (fun ls hl => ?_)
      refine lv_iload_n hx hb dX5_drops_59 rfl (lv_at hl 0 rfl) ?_
      refine lv_iconst (v := 2) hx hb dX5_drops_60 (by decide) ?_
      refine lv_aload_n hx hb dX5_drops_61 rfl (lv_at hl 2 rfl) ?_
      refine mo_get hx hb hts hown hw hM 0 (by decide) q2554 rfl (v := .ref (ma 0)) rfl dX5_drops_62 ?_
      refine lv_iconst (v := 1) hx hb dX5_drops_65 (by decide) ?_
      refine mo_ald hx hb hw hM 0 rfl (j := 1) rfl (show 1 < 137 by omega) dX5_drops_66 ?_
      refine lv_imul hx hb dX5_drops_67 ?_
      refine lv_iconst (v := 2) hx hb dX5_drops_68 (by decide) ?_
      refine lv_isub hx hb dX5_drops_69 ?_
      refine lv_icmp_ge (tgt := 106) hx hb dX5_drops_70 (by decide) (fun c70 => ?_) (fun c70 => ?_)
      · skip
        refine lv_aload_n hx hb dX5_drops_106 rfl (lv_at hl 2 rfl) ?_
        refine mo_get hx hb hts hown hw hM 0 (by decide) q2554 rfl (v := .ref (ma 0)) rfl dX5_drops_107 ?_
        refine lv_iconst (v := 1) hx hb dX5_drops_110 (by decide) ?_
        refine lv_dup2_11 hx hb dX5_drops_111 rfl rfl ?_
        refine mo_ald hx hb hw hM 0 rfl (j := 1) rfl (show 1 < 137 by omega) dX5_drops_112 ?_
        refine lv_iconst (v := 1) hx hb dX5_drops_113 (by decide) ?_
        refine lv_isub hx hb dX5_drops_114 ?_
        refine mo_ast hx hb hw hM hF 0 rfl (j := 1) rfl (show 1 < 137 by omega) dX5_drops_115 (fun hh H locs hM hF hw => ?_)
        refine lv_iload_n hx hb dX5_drops_116 rfl (lv_at hl 1 rfl) ?_
        exact hret rfl hw ⟨_, (by unfold i_drops; simp only [o_n_nI (show nb < 2 ^ 31 by omega)]; rw [if_neg hP16, if_pos hP35]; exact (hm9.sa _ _) : m_inn σ (i_drops (σ.2 0) (nI nb)) (mo_sa (mo_st (mo_st σ 16 5) 17 (σ.2 0 (13 + 2 * 0 + 1))) 0 1 ((σ.2 0 1) - 1)) (0)), hM, hF⟩ (Nat.le_of_ble_eq_true rfl) (Nat.le_of_ble_eq_true rfl) dX5_drops_117
      · skip
        refine lv_aload_n hx hb dX5_drops_73 rfl (lv_at hl 2 rfl) ?_
        refine mo_get hx hb hts hown hw hM 16 (by decide) q2570 rfl (v := .int 5) rfl dX5_drops_74 ?_
        refine lv_if_ne (tgt := 106) hx hb dX5_drops_77 (by decide) (fun _ => ?_) (fun c => absurd c (by decide))
        refine lv_aload_n hx hb dX5_drops_106 rfl (lv_at hl 2 rfl) ?_
        refine mo_get hx hb hts hown hw hM 0 (by decide) q2554 rfl (v := .ref (ma 0)) rfl dX5_drops_107 ?_
        refine lv_iconst (v := 1) hx hb dX5_drops_110 (by decide) ?_
        refine lv_dup2_11 hx hb dX5_drops_111 rfl rfl ?_
        refine mo_ald hx hb hw hM 0 rfl (j := 1) rfl (show 1 < 137 by omega) dX5_drops_112 ?_
        refine lv_iconst (v := 1) hx hb dX5_drops_113 (by decide) ?_
        refine lv_isub hx hb dX5_drops_114 ?_
        refine mo_ast hx hb hw hM hF 0 rfl (j := 1) rfl (show 1 < 137 by omega) dX5_drops_115 (fun hh H locs hM hF hw => ?_)
        refine lv_iload_n hx hb dX5_drops_116 rfl (lv_at hl 1 rfl) ?_
        exact hret rfl hw ⟨_, (by unfold i_drops; simp only [o_n_nI (show nb < 2 ^ 31 by omega)]; rw [if_neg hP16, if_pos hP35]; exact (hm9.sa _ _) : m_inn σ (i_drops (σ.2 0) (nI nb)) (mo_sa (mo_st (mo_st σ 16 5) 17 (σ.2 0 (13 + 2 * 0 + 1))) 0 1 ((σ.2 0 1) - 1)) (0)), hM, hF⟩ (Nat.le_of_ble_eq_true rfl) (Nat.le_of_ble_eq_true rfl) dX5_drops_117
    · skip
      rw [mo_hin_f hP35] at hM
      have hnb0 : nb ≠ 0 := fun z => hP35 (by rw [z]; rfl)
      refine lv_aload_n hx hb dX5_drops_38 rfl (lv_at hl 0 rfl) ?_
      refine mo_get hx hb hts hown hw hM 16 (by decide) q2570 rfl (v := .int (σ.1 16)) rfl dX5_drops_39 ?_
      refine lv_tope (y := 0) (h16) ?_
      refine lv_if_ne (tgt := 53) hx hb dX5_drops_42 (by decide) (fun c => absurd c (by decide)) (fun _ => ?_)
      refine lv_aload_n hx hb dX5_drops_45 rfl (lv_at hl 0 rfl) ?_
      refine lv_iload_n hx hb dX5_drops_46 rfl (lv_at hl 1 rfl) ?_
      refine hv_callir (va_runV (As := [.int (nI nb)]) (rest := []) ⟨hx, hb, hml, hown, hts⟩ (met_X5_edge l G hM nb (show 13 + 2 * nb < 137 by omega)) (cwV 1 hts (lw_V q2673 q2675 qs49 q106 q2676) rfl rfl rfl (by decide +kernel) ⟨Nat.le_of_ble_eq_true rfl, Nat.le_of_ble_eq_true rfl⟩) (hv_preV hw pk_X5 hM.1) rfl rfl hl.1 rfl (lv_room (Nat.le_of_ble_eq_true rfl)) dX5_drops_47 ⟨Nat.le_of_ble_eq_true rfl, Nat.le_of_ble_eq_true rfl⟩) hw (fun H locs hw => ?_)
      refine lv_goto (tgt := 54) hx hb dX5_drops_50 (by decide) ?_
      refine lv_istore_n (lv' := [(2, .int (σ.2 0 (13 + 2 * nb))), (0, .ref o), (1, .int (nI nb))]) hx hb dX5_drops_54 rfl hl (by decide) rfl (fun ls hl => ?_)
      refine lv_iconst (v := 2) hx hb dX5_drops_55 (by decide) ?_
      refine lv_iload_n hx hb dX5_drops_56 rfl (lv_at hl 2 rfl) ?_
      refine lv_imul hx hb dX5_drops_57 ?_
      refine lv_tope (y := nI (2 * nb)) (by simp only [nI, Int32.ofNat_add, Int32.ofNat_mul] <;> rfl) ?_
      refine lv_istore_n (lv' := [(3, .int (nI (2 * nb))), (2, .int (σ.2 0 (13 + 2 * nb))), (0, .ref o), (1, .int (nI nb))]) hx hb dX5_drops_58 rfl hl (by decide) rfl (fun ls hl => ?_)
      have hM : isMod G hh o ma (mo_na σ (o_shd (σ.2 0) (2 * nb) (2 * nb))) := by rw [o_shd_0, mo_na_self]; exact hM
      have LP59 : ∀ (n : Nat) (k : Nat) (hh : hp) (H : Heap) (locs : List Loc) (ls : Array Slot), 2 * o_many (σ.2 0) - 2 - k < n → k ≤ 2 * o_many (σ.2 0) - 2 → 2 * nb ≤ k → isMod G hh o ma (mo_na σ (o_shd (σ.2 0) (2 * nb) k)) → mo_fr o ma h hh → hv_W G s hh H locs → lv_has ls 4 [(3, .int (nI k)), (2, .int (σ.2 0 (13 + 2 * nb))), (0, .ref o), (1, .int (nI nb))] → W p l e ({ frames := 2, cells := 0, slots := 0, locals := 43 } : Room) s m a below meth c H locs 0 0 Q (F0 m 59 ls []) := by
        intro n
        induction n with
        | zero => exact fun k hh H locs ls hmu => absurd hmu (Nat.not_lt_zero _)
        | succ n ih =>
          intro k hh H locs ls hmu hkk hkl hM hF hw hl
          refine lv_iload_n hx hb dX5_drops_59 rfl (lv_at hl 0 rfl) ?_
          refine lv_iconst (v := 2) hx hb dX5_drops_60 (by decide) ?_
          refine lv_aload_n hx hb dX5_drops_61 rfl (lv_at hl 2 rfl) ?_
          refine mo_get hx hb hts hown hw hM 0 (by decide) q2554 rfl (v := .ref (ma 0)) rfl dX5_drops_62 ?_
          refine lv_iconst (v := 1) hx hb dX5_drops_65 (by decide) ?_
          refine mo_ald hx hb hw hM 0 rfl (j := 1) rfl (show 1 < 137 by omega) dX5_drops_66 ?_
          refine lv_tope (y := nI (o_many (σ.2 0))) ((congrFun mo_na_2 1).trans ((o_shd_at (by omega)).trans hq1)) ?_
          refine lv_imul hx hb dX5_drops_67 ?_
          refine lv_tope (y := nI (2 * o_many (σ.2 0))) (by simp only [nI, Int32.ofNat_add, Int32.ofNat_mul] <;> rfl) ?_
          refine lv_iconst (v := 2) hx hb dX5_drops_68 (by decide) ?_
          refine lv_isub hx hb dX5_drops_69 ?_
          refine lv_tope (y := nI (2 * o_many (σ.2 0) - 2)) (pk_sub (b := 2) (by omega)) ?_
          refine lv_icmp_ge (tgt := 106) hx hb dX5_drops_70 (by decide) (fun c70 => ?_) (fun c70 => ?_)
          · skip
            have hxk : 2 * o_many (σ.2 0) - 2 ≤ k := cmp_le c70 rfl rfl (by omega) (by omega)
            obtain rfl : k = 2 * o_many (σ.2 0) - 2 := by omega
            have hx1 : 1 < 13 + 2 * nb := by omega
            refine lv_aload_n hx hb dX5_drops_106 rfl (lv_at hl 2 rfl) ?_
            refine mo_get hx hb hts hown hw hM 0 (by decide) q2554 rfl (v := .ref (ma 0)) rfl dX5_drops_107 ?_
            refine lv_iconst (v := 1) hx hb dX5_drops_110 (by decide) ?_
            refine lv_dup2_11 hx hb dX5_drops_111 rfl rfl ?_
            refine mo_ald hx hb hw hM 0 rfl (j := 1) rfl (show 1 < 137 by omega) dX5_drops_112 ?_
            refine lv_tope (y := nI (o_many (σ.2 0))) ((congrFun mo_na_2 1).trans ((o_shd_at (by omega)).trans hq1)) ?_
            refine lv_iconst (v := 1) hx hb dX5_drops_113 (by decide) ?_
            refine lv_isub hx hb dX5_drops_114 ?_
            refine lv_tope (y := nI (o_many (σ.2 0) - 1)) (pk_sub (b := 1) (by omega)) ?_
            refine mo_ast hx hb hw hM hF 0 rfl (j := 1) rfl (show 1 < 137 by omega) dX5_drops_115 (fun hh H locs hM hF hw => ?_)
            refine lv_iload_n hx hb dX5_drops_116 rfl (lv_at hl 1 rfl) ?_
            exact hret rfl hw ⟨_, (by unfold i_drops; simp only [o_n_nI (show nb < 2 ^ 31 by omega)]; rw [if_neg hP16, if_neg hP35]; exact ⟨by simp only [mo_sa_na, mo_na_na, mo_na_2], by first | rfl | simp only [mo_sa_na, mo_na_na, mo_na_2]⟩ : m_inn σ (i_drops (σ.2 0) (nI nb)) (mo_sa (mo_na σ (o_shd (σ.2 0) (2 * nb) (2 * o_many (σ.2 0) - 2))) 0 1 (nI (o_many (σ.2 0) - 1))) (σ.2 0 (13 + 2 * nb))), hM, hF⟩ (Nat.le_of_ble_eq_true rfl) (Nat.le_of_ble_eq_true rfl) dX5_drops_117
          · skip
            have hxk : k < 2 * o_many (σ.2 0) - 2 := cmp_nle c70 rfl rfl (by omega) (by omega)
            refine lv_aload_n hx hb dX5_drops_73 rfl (lv_at hl 2 rfl) ?_
            refine mo_get hx hb hts hown hw hM 16 (by decide) q2570 rfl (v := .int ((mo_na σ (o_shd (σ.2 0) (2 * nb) k)).1 16)) rfl dX5_drops_74 ?_
            refine lv_tope (y := 0) (h16) ?_
            refine lv_if_ne (tgt := 106) hx hb dX5_drops_77 (by decide) (fun c => absurd c (by decide)) (fun _ => ?_)
            refine lv_aload_n hx hb dX5_drops_80 rfl (lv_at hl 2 rfl) ?_
            refine mo_get hx hb hts hown hw hM 0 (by decide) q2554 rfl (v := .ref (ma 0)) rfl dX5_drops_81 ?_
            refine lv_bipush (v := 13) hx hb dX5_drops_84 (by decide) ?_
            refine lv_iload_n hx hb dX5_drops_86 rfl (lv_at hl 0 rfl) ?_
            refine lv_iadd hx hb dX5_drops_87 ?_
            refine lv_tope (y := nI (13 + k)) (by simp only [nI, Int32.ofNat_add, Int32.ofNat_mul] <;> rfl) ?_
            refine lv_aload_n hx hb dX5_drops_88 rfl (lv_at hl 2 rfl) ?_
            refine mo_get hx hb hts hown hw hM 0 (by decide) q2554 rfl (v := .ref (ma 0)) rfl dX5_drops_89 ?_
            refine lv_bipush (v := 13) hx hb dX5_drops_92 (by decide) ?_
            refine lv_iload_n hx hb dX5_drops_94 rfl (lv_at hl 0 rfl) ?_
            refine lv_iadd hx hb dX5_drops_95 ?_
            refine lv_tope (y := nI (13 + k)) (by simp only [nI, Int32.ofNat_add, Int32.ofNat_mul] <;> rfl) ?_
            refine lv_iconst (v := 2) hx hb dX5_drops_96 (by decide) ?_
            refine lv_iadd hx hb dX5_drops_97 ?_
            refine lv_tope (y := nI (13 + k + 2)) (by simp only [nI, Int32.ofNat_add, Int32.ofNat_mul] <;> rfl) ?_
            refine mo_ald hx hb hw hM 0 rfl (j := 13 + k + 2) rfl (show 13 + k + 2 < 137 by omega) dX5_drops_98 ?_
            refine lv_tope (y := σ.2 0 (13 + k + 2)) ((congrFun mo_na_2 _).trans (o_shd_at (by omega))) ?_
            refine mo_ast hx hb hw hM hF 0 rfl (j := 13 + k) rfl (show 13 + k < 137 by omega) dX5_drops_99 (fun hh H locs hM hF hw => ?_)
            rw [mo_na_sa, o_shd_s hkl] at hM
            refine lv_iinc (v := nI (k + 1)) (lv' := [(3, .int (nI (k + 1))), (2, .int (σ.2 0 (13 + 2 * nb))), (0, .ref o), (1, .int (nI nb))]) hx hb dX5_drops_100 hl (k := 0) rfl (by simp only [nI, Int32.ofNat_add] <;> rfl) (by decide) rfl (fun ls hl => ?_)
            refine lv_goto (tgt := 59) hx hb dX5_drops_103 (by decide) ?_
            exact ih (k + 1) _ _ _ _ (by omega) (by omega) (by omega) hM hF hw (lv_sub hl [0, 1, 2, 3] rfl)
      exact LP59 _ (2 * nb) _ _ _ _ (Nat.lt_succ_self _) (by omega) (by omega) hM hF hw (lv_sub hl [0, 1, 2, 3] rfl)
