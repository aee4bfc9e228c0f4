set_option maxRecDepth 100000
set_option maxHeartbeats 400000 in
theorem met_X5_share (l : Launch) (G : hG) {h : hp} {o : Nat} {ma : Nat → Nat} {σ : MS} (hM : isMod G h o ma σ) (c9 : Int32) (hok : okI (σ.2 0)) (hI : (σ.2 0 (23 + 19 * o_n c9 + 0)) = nI (o_n (σ.2 0 (23 + 19 * o_n c9 + 0))) ∧ o_n (σ.2 0 (23 + 19 * o_n c9 + 0)) < 16777216) (hT : (o_tax (σ.2 0) (o_n c9) (σ.2 0 (23 + 19 * o_n c9 + 0)) False) = nI (o_n (o_tax (σ.2 0) (o_n c9) (σ.2 0 (23 + 19 * o_n c9 + 0)) False)) ∧ o_n (o_tax (σ.2 0) (o_n c9) (σ.2 0 (23 + 19 * o_n c9 + 0)) False) < 16777216) : mo_Mf l G yX5_share (ws_ yX5_share cX5_share 2 (Option.some Jvm.ClassFile.FieldType.float)) ({ frames := 5, cells := 0, slots := 0, locals := 115 } : Room) [.ref o, .int c9] h o ma (if (0 ≤ c9 ∧ c9 ≤ σ.2 0 5 - 1) ∧ 0 < (σ.2 0 (23 + 19 * o_n c9 + 0)) then FP.fdiv (FP.i2f (o_tax (σ.2 0) (o_n c9) (σ.2 0 (23 + 19 * o_n c9 + 0)) False)) (FP.i2f (σ.2 0 (23 + 19 * o_n c9 + 0))) else FP.fconst0) (mo_st σ 15 (m_gv (0 ≤ c9 ∧ c9 ≤ σ.2 0 5 - 1) 1 (0 < (σ.2 0 (23 + 19 * o_n c9 + 0))) 2)) := by
  refine hv_bf (own := RX5) (by decide +kernel) rfl (Nat.le_of_ble_eq_true rfl) (fun p e s m a below meth c ls Q hx hb hml hown hts hnm hret hw hl => ?_)
  have hl : lv_has ls 2 [(0, .ref o), (1, .int c9)] := hl
  have hF : mo_fr o ma h h := mo_fr.rf
  have hmx : o_many (σ.2 0) ≤ 5 := hok.2.2.1
  have hpx : o_people (σ.2 0) ≤ 6 := hok.2.2.2.2.1
  refine lv_aload_n hx hb dX5_share_0 rfl (lv_at hl 0 rfl) ?_
  refine lv_aload_n hx hb dX5_share_1 rfl (lv_at hl 0 rfl) ?_
  refine lv_iload_n hx hb dX5_share_2 rfl (lv_at hl 1 rfl) ?_
  refine hv_callir (va_runV (As := [.int c9]) (rest := [.ref o]) ⟨hx, hb, hml, hown, hts⟩ (met_X5_isCitizen l G hM c9 ) (cwV 1 hts (lw_V q2736 q2738 qs58 q106 q2739) rfl rfl rfl (by decide +kernel) ⟨Nat.le_of_ble_eq_true rfl, Nat.le_of_ble_eq_true rfl⟩) (hv_preV hw pk_X5 hM.1) rfl rfl hl.1 rfl (lv_room (Nat.le_of_ble_eq_true rfl)) dX5_share_3 ⟨Nat.le_of_ble_eq_true rfl, Nat.le_of_ble_eq_true rfl⟩) hw (fun H locs hw => ?_)
  refine lv_iconst (v := 1) hx hb dX5_share_6 (by decide) ?_
  refine lv_aload_n hx hb dX5_share_7 rfl (lv_at hl 0 rfl) ?_
  refine lv_iload_n hx hb dX5_share_8 rfl (lv_at hl 1 rfl) ?_
  refine hv_callir (va_runV (As := [.int c9]) (rest := [.int 1, .int (b01 (0 ≤ c9 ∧ c9 ≤ σ.2 0 5 - 1)), .ref o]) ⟨hx, hb, hml, hown, hts⟩ (met_X5_isCitizen l G hM c9 ) (cwV 1 hts (lw_V q2736 q2738 qs58 q106 q2739) rfl rfl rfl (by decide +kernel) ⟨Nat.le_of_ble_eq_true rfl, Nat.le_of_ble_eq_true rfl⟩) (hv_preV hw pk_X5 hM.1) rfl rfl hl.1 rfl (lv_room (Nat.le_of_ble_eq_true rfl)) dX5_share_9 ⟨Nat.le_of_ble_eq_true rfl, Nat.le_of_ble_eq_true rfl⟩) hw (fun H locs hw => ?_)
  refine lv_if_eq (tgt := 28) hx hb dX5_share_12 (by decide) (fun c12 => ?_) (fun c12 => ?_)
  · skip
    have c12 : ¬ (0 ≤ c9 ∧ c9 ≤ σ.2 0 5 - 1) := b01_0.mp c12
    refine lv_iconst (v := 0) hx hb dX5_share_28 (by decide) ?_
    refine lv_iconst (v := 2) hx hb dX5_share_29 (by decide) ?_
    refine mo_calli (va_runV (As := [.int (b01 (0 ≤ c9 ∧ c9 ≤ σ.2 0 5 - 1)), .int 1, .int 0, .int 2]) (rest := []) ⟨hx, hb, hml, hown, hts⟩ (met_X5_goes l G hM (0 ≤ c9 ∧ c9 ≤ σ.2 0 5 - 1) 1 (False) 2 (by decide) (fun _ => by decide)) (cwV 4 hts (lw_V q2825 q2827 qs75 q106 q2828) rfl rfl rfl (by decide +kernel) ⟨Nat.le_of_ble_eq_true rfl, Nat.le_of_ble_eq_true rfl⟩) (hv_preV hw pk_X5 hM.1) rfl rfl hl.1 rfl (lv_room (Nat.le_of_ble_eq_true rfl)) dX5_share_30 ⟨Nat.le_of_ble_eq_true rfl, Nat.le_of_ble_eq_true rfl⟩) hw hF (fun hh H locs hM hF hw => ?_)
    refine lv_if_ne (tgt := 38) hx hb dX5_share_33 (by decide) (fun c33 => ?_) (fun c33 => ?_)
    · skip
      have c33 : (0 ≤ c9 ∧ c9 ≤ σ.2 0 5 - 1) ∧ (False) := b01_n.mp c33
      exact absurd c33.2 (fun z => z)
    · skip
      have c33 : ¬ ((0 ≤ c9 ∧ c9 ≤ σ.2 0 5 - 1) ∧ (False)) := b01_0.mp c33
      refine lv_fconst0 hx hb dX5_share_36 ?_
      exact hret hw ⟨(if_neg (fun z => c12 z.1)).symm, by rw [m_gv_f (B := 0 < (σ.2 0 (23 + 19 * o_n c9 + 0))) (C := False) c12]; exact hM, hF⟩ (Nat.le_of_ble_eq_true rfl) (Nat.le_of_ble_eq_true rfl) dX5_share_37
  · skip
    have c12 : 0 ≤ c9 ∧ c9 ≤ σ.2 0 5 - 1 := b01_n.mp c12
    obtain ⟨nc, hnc, rfl⟩ := o_ix c12 (congrArg (· - 1) hok.2.2.2.1) (by omega)
    have ec : o_n (nI nc) = nc := o_n_nI (by omega)
    rw [ec] at hI hT
    refine lv_aload_n hx hb dX5_share_15 rfl (lv_at hl 0 rfl) ?_
    refine lv_iload_n hx hb dX5_share_16 rfl (lv_at hl 1 rfl) ?_
    refine lv_iconst (v := 0) hx hb dX5_share_17 (by decide) ?_
    refine hv_callir (va_runV (As := [.int (nI nc), .int 0]) (rest := [.int 1, .int (b01 (0 ≤ (nI nc) ∧ (nI nc) ≤ σ.2 0 5 - 1)), .ref o]) ⟨hx, hb, hml, hown, hts⟩ (met_X5_of l G hM nc 0 (show 23 + 19 * nc + 0 < 137 by omega)) (cwV 2 hts (lw_V q2740 q2742 qs59 q106 q2743) rfl rfl rfl (by decide +kernel) ⟨Nat.le_of_ble_eq_true rfl, Nat.le_of_ble_eq_true rfl⟩) (hv_preV hw pk_X5 hM.1) rfl rfl hl.1 rfl (lv_room (Nat.le_of_ble_eq_true rfl)) dX5_share_18 ⟨Nat.le_of_ble_eq_true rfl, Nat.le_of_ble_eq_true rfl⟩) hw (fun H locs hw => ?_)
    refine lv_mat0 (P := (σ.2 0 (23 + 19 * nc + 0)) ≤ 0) (j := 29) (fun k1 k2 => lv_if_le (tgt := 28) hx hb dX5_share_21 (by decide) (fun c => lv_iconst (v := 0) hx hb dX5_share_28 (by decide) (k1 c)) (fun c => lv_iconst (v := 1) hx hb dX5_share_24 (by decide) (lv_goto (tgt := 29) hx hb dX5_share_25 (by decide) (k2 c)))) ?_
    refine lv_iconst (v := 2) hx hb dX5_share_29 (by decide) ?_
    refine mo_calli (va_runV (As := [.int (b01 (0 ≤ (nI nc) ∧ (nI nc) ≤ σ.2 0 5 - 1)), .int 1, .int (b01 (¬ ((σ.2 0 (23 + 19 * nc + 0)) ≤ 0))), .int 2]) (rest := []) ⟨hx, hb, hml, hown, hts⟩ (met_X5_goes l G hM (0 ≤ (nI nc) ∧ (nI nc) ≤ σ.2 0 5 - 1) 1 (¬ ((σ.2 0 (23 + 19 * nc + 0)) ≤ 0)) 2 (by decide) (fun _ => by decide)) (cwV 4 hts (lw_V q2825 q2827 qs75 q106 q2828) rfl rfl rfl (by decide +kernel) ⟨Nat.le_of_ble_eq_true rfl, Nat.le_of_ble_eq_true rfl⟩) (hv_preV hw pk_X5 hM.1) rfl rfl hl.1 rfl (lv_room (Nat.le_of_ble_eq_true rfl)) dX5_share_30 ⟨Nat.le_of_ble_eq_true rfl, Nat.le_of_ble_eq_true rfl⟩) hw hF (fun hh H locs hM hF hw => ?_)
    refine lv_if_ne (tgt := 38) hx hb dX5_share_33 (by decide) (fun c33 => ?_) (fun c33 => ?_)
    · skip
      have c33 : (0 ≤ (nI nc) ∧ (nI nc) ≤ σ.2 0 5 - 1) ∧ (¬ ((σ.2 0 (23 + 19 * nc + 0)) ≤ 0)) := b01_n.mp c33
      refine lv_aload_n hx hb dX5_share_38 rfl (lv_at hl 0 rfl) ?_
      refine lv_iload_n hx hb dX5_share_39 rfl (lv_at hl 1 rfl) ?_
      refine lv_aload_n hx hb dX5_share_40 rfl (lv_at hl 0 rfl) ?_
      refine lv_iload_n hx hb dX5_share_41 rfl (lv_at hl 1 rfl) ?_
      refine lv_iconst (v := 0) hx hb dX5_share_42 (by decide) ?_
      refine hv_callir (va_runV (As := [.int (nI nc), .int 0]) (rest := [.int (nI nc), .ref o]) ⟨hx, hb, hml, hown, hts⟩ (met_X5_of l G hM nc 0 (show 23 + 19 * nc + 0 < 137 by omega)) (cwV 2 hts (lw_V q2740 q2742 qs59 q106 q2743) rfl rfl rfl (by decide +kernel) ⟨Nat.le_of_ble_eq_true rfl, Nat.le_of_ble_eq_true rfl⟩) (hv_preV hw pk_X5 hM.1) rfl rfl hl.1 rfl (lv_room (Nat.le_of_ble_eq_true rfl)) dX5_share_43 ⟨Nat.le_of_ble_eq_true rfl, Nat.le_of_ble_eq_true rfl⟩) hw (fun H locs hw => ?_)
      refine lv_iconst (v := 0) hx hb dX5_share_46 (by decide) ?_
      refine hv_callir (va_runV (As := [.int (nI nc), .int (σ.2 0 (23 + 19 * nc + 0)), .int 0]) (rest := []) ⟨hx, hb, hml, hown, hts⟩ (met_X5_taxOf l G hM nc (σ.2 0 (23 + 19 * nc + 0)) (False) (hok) (show nc < o_people (σ.2 0) by omega)) (cwV 3 hts (lw_V q2861 q2863 qs78 q106 q2864) rfl rfl rfl (by decide +kernel) ⟨Nat.le_of_ble_eq_true rfl, Nat.le_of_ble_eq_true rfl⟩) (hv_preV hw pk_X5 hM.1) rfl rfl hl.1 rfl (lv_room (Nat.le_of_ble_eq_true rfl)) dX5_share_47 ⟨Nat.le_of_ble_eq_true rfl, Nat.le_of_ble_eq_true rfl⟩) hw (fun H locs hw => ?_)
      refine lv_i2f hx hb dX5_share_50 ?_
      refine lv_aload_n hx hb dX5_share_51 rfl (lv_at hl 0 rfl) ?_
      refine lv_iload_n hx hb dX5_share_52 rfl (lv_at hl 1 rfl) ?_
      refine lv_iconst (v := 0) hx hb dX5_share_53 (by decide) ?_
      refine hv_callir (va_runV (As := [.int (nI nc), .int 0]) (rest := [.float (FP.i2f (o_tax (σ.2 0) nc (σ.2 0 (23 + 19 * nc + 0)) (False)))]) ⟨hx, hb, hml, hown, hts⟩ (met_X5_of l G hM nc 0 (show 23 + 19 * nc + 0 < 137 by omega)) (cwV 2 hts (lw_V q2740 q2742 qs59 q106 q2743) rfl rfl rfl (by decide +kernel) ⟨Nat.le_of_ble_eq_true rfl, Nat.le_of_ble_eq_true rfl⟩) (hv_preV hw pk_X5 hM.1) rfl rfl hl.1 rfl (lv_room (Nat.le_of_ble_eq_true rfl)) dX5_share_54 ⟨Nat.le_of_ble_eq_true rfl, Nat.le_of_ble_eq_true rfl⟩) hw (fun H locs hw => ?_)
      refine lv_i2f hx hb dX5_share_57 ?_
      refine lv_fdiv hx hb dX5_share_58 (vf_fdivI hT hI c33.2) ?_
      exact hret hw ⟨by rw [ec, if_pos ⟨c33.1, Int32.not_le.mp c33.2⟩] <;> rfl, by rw [ec]; simp only [← Int32.not_le]; exact hM, hF⟩ (Nat.le_of_ble_eq_true rfl) (Nat.le_of_ble_eq_true rfl) dX5_share_59
    · skip
      have c33 : ¬ ((0 ≤ (nI nc) ∧ (nI nc) ≤ σ.2 0 5 - 1) ∧ (¬ ((σ.2 0 (23 + 19 * nc + 0)) ≤ 0))) := b01_0.mp c33
      refine lv_fconst0 hx hb dX5_share_36 ?_
      exact hret hw ⟨(if_neg (fun z => c33 ⟨c12, by have z1 := z.2; rw [ec] at z1; exact Int32.not_le.mpr z1⟩)).symm, by rw [ec]; simp only [← Int32.not_le]; exact hM, hF⟩ (Nat.le_of_ble_eq_true rfl) (Nat.le_of_ble_eq_true rfl) dX5_share_37
set_option maxHeartbeats 400000 in
theorem met_X5_meanIncome (l : Launch) (G : hG) {h : hp} {o : Nat} {ma : Nat → Nat} {σ : MS} (hM : isMod G h o ma σ)  (hok : okI (σ.2 0)) (hS : (o_sum (σ.2 0) 0 (o_people (σ.2 0))) = nI (o_n (o_sum (σ.2 0) 0 (o_people (σ.2 0)))) ∧ o_n (o_sum (σ.2 0) 0 (o_people (σ.2 0))) < 2147483648) : mo_Md l G yX5_meanIncome (ws_ yX5_meanIncome cX5_meanIncome 1 (Option.some Jvm.ClassFile.FieldType.double)) ({ frames := 3, cells := 0, slots := 0, locals := 68 } : Room) [.ref o] h o ma (if σ.2 0 5 = 0 then FP.dconst0 else FP.ddiv (FP.i2d (o_sum (σ.2 0) 0 (o_people (σ.2 0)))) (FP.i2d (σ.2 0 5))) (mo_st σ 15 (b01 (σ.2 0 5 = 0))) := by
  refine hv_bd (own := RX5) (by decide +kernel) rfl (Nat.le_of_ble_eq_true rfl) (fun p e s m a below meth c ls Q hx hb hml hown hts hnm hret hw hl => ?_)
  have hl : lv_has ls 1 [(0, .ref o)] := hl
  have hF : mo_fr o ma h h := mo_fr.rf
  have hmx : o_many (σ.2 0) ≤ 5 := hok.2.2.1
  have hpx : o_people (σ.2 0) ≤ 6 := hok.2.2.2.2.1
  refine lv_aload_n hx hb dX5_meanIncome_0 rfl (lv_at hl 0 rfl) ?_
  refine lv_aload_n hx hb dX5_meanIncome_1 rfl (lv_at hl 0 rfl) ?_
  refine mo_get hx hb hts hown hw hM 0 (by decide) q2554 rfl (v := .ref (ma 0)) rfl dX5_meanIncome_2 ?_
  refine lv_iconst (v := 5) hx hb dX5_meanIncome_5 (by decide) ?_
  refine mo_ald hx hb hw hM 0 rfl (j := 5) rfl (show 5 < 137 by omega) dX5_meanIncome_6 ?_
  refine lv_mat1 (P := (σ.2 0 5) = 0) (j := 15) (fun k1 k2 => lv_if_ne (tgt := 14) hx hb dX5_meanIncome_7 (by decide) (fun c => lv_iconst (v := 0) hx hb dX5_meanIncome_14 (by decide) (k2 c)) (fun c => lv_iconst (v := 1) hx hb dX5_meanIncome_10 (by decide) (lv_goto (tgt := 15) hx hb dX5_meanIncome_11 (by decide) (k1 c)))) ?_
  refine mo_put hx hb hts hown hw hM hF 15 (by decide) rfl q2569 rfl rfl rfl rfl dX5_meanIncome_15 (fun hh H locs hM hF hw => ?_)
  refine lv_aload_n hx hb dX5_meanIncome_18 rfl (lv_at hl 0 rfl) ?_
  refine mo_get hx hb hts hown hw hM 15 (by decide) q2569 rfl (v := .int (b01 ((σ.2 0 5) = 0))) rfl dX5_meanIncome_19 ?_
  refine lv_if_ne (tgt := 42) hx hb dX5_meanIncome_22 (by decide) (fun c22 => ?_) (fun c22 => ?_)
  · skip
    have c22 : (σ.2 0 5) = 0 := b01_n.mp c22
    refine lv_dconst0 hx hb dX5_meanIncome_42 ?_
    exact hret hw ⟨(if_pos (show σ.2 0 5 = 0 from c22)).symm, hM, hF⟩ (Nat.le_of_ble_eq_true rfl) (Nat.le_of_ble_eq_true rfl) dX5_meanIncome_43
  · skip
    have c22 : ¬ ((σ.2 0 5) = 0) := b01_0.mp c22
    refine lv_aload_n hx hb dX5_meanIncome_25 rfl (lv_at hl 0 rfl) ?_
    refine lv_iconst (v := 0) hx hb dX5_meanIncome_26 (by decide) ?_
    refine hv_callir (va_runV (As := [.int 0]) (rest := []) ⟨hx, hb, hml, hown, hts⟩ (met_X5_sumOf l G hM 0 (hok) (by decide)) (cwV 1 hts (lw_V q2906 q2908 qs80 q106 q2909) rfl rfl rfl (by decide +kernel) ⟨Nat.le_of_ble_eq_true rfl, Nat.le_of_ble_eq_true rfl⟩) (hv_preV hw pk_X5 hM.1) rfl rfl hl.1 rfl (lv_room (Nat.le_of_ble_eq_true rfl)) dX5_meanIncome_27 ⟨Nat.le_of_ble_eq_true rfl, Nat.le_of_ble_eq_true rfl⟩) hw (fun H locs hw => ?_)
    refine lv_i2d hx hb dX5_meanIncome_30 ?_
    refine lv_aload_n hx hb dX5_meanIncome_31 rfl (lv_at hl 0 rfl) ?_
    refine mo_get hx hb hts hown hw hM 0 (by decide) q2554 rfl (v := .ref (ma 0)) rfl dX5_meanIncome_32 ?_
    refine lv_iconst (v := 5) hx hb dX5_meanIncome_35 (by decide) ?_
    refine mo_ald hx hb hw hM 0 rfl (j := 5) rfl (show 5 < 137 by omega) dX5_meanIncome_36 ?_
    refine lv_i2d hx hb dX5_meanIncome_37 ?_
    refine lv_ddiv hx hb dX5_meanIncome_38 (vf_ddivI hS (show σ.2 0 5 = nI (o_people (σ.2 0)) ∧ o_people (σ.2 0) < 2147483648 from ⟨hok.2.2.2.1, by omega⟩) c22) ?_
    refine lv_goto (tgt := 43) hx hb dX5_meanIncome_39 (by decide) ?_
    exact hret hw ⟨(if_neg (show ¬ σ.2 0 5 = 0 from c22)).symm, hM, hF⟩ (Nat.le_of_ble_eq_true rfl) (Nat.le_of_ble_eq_true rfl) dX5_meanIncome_43
