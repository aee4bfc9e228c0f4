set_option maxRecDepth 100000
set_option maxHeartbeats 4000000 in
theorem met_X5_pays (l : Launch) (G : hG) {h : hp} {o : Nat} {ma : Nat → Nat} {σ : MS} (hM : isMod G h o ma σ) (c9 : Nat) (au : Prop) [Decidable au] (hok : okI (σ.2 0)) (hy1 : c9 < o_people (σ.2 0)) : mo_Mi l G yX5_pays (ws_ yX5_pays cX5_pays 9 (Option.some Jvm.ClassFile.FieldType.int)) ({ frames := 4, cells := 0, slots := 0, locals := 91 } : Room) [.ref o, .int (nI c9), .int (b01 au)] h o ma (o_paid (σ.2 0) c9 au) (mo_na σ (o_payA (σ.2 0) c9 au)) := by
  refine hv_bi .int (Or.inl rfl) (own := RX5) (by decide +kernel) rfl (Nat.le_of_ble_eq_true rfl) (fun p e s m a below meth c ls Q hx hb hml hown hts hnm hret hw hl => ?_)
  have hl : lv_has ls 9 [(0, .ref o), (1, .int (nI c9)), (2, .int (b01 au))] := hl
  have hF : mo_fr o ma h h := mo_fr.rf
  have hmx : o_many (σ.2 0) ≤ 5 := hok.2.2.1
  have hpx : o_people (σ.2 0) ≤ 6 := hok.2.2.2.2.1
  have hhd := hok.2.2.2.2.2.1 c9 hy1
  have hc6 : c9 < 6 := by omega
  refine lv_aload_n hx hb dX5_pays_0 rfl (lv_at hl 0 rfl) ?_
  refine lv_aload_n hx hb dX5_pays_1 rfl (lv_at hl 0 rfl) ?_
  refine lv_iload_n hx hb dX5_pays_2 rfl (lv_at hl 1 rfl) ?_
  refine lv_iconst (v := 0) hx hb dX5_pays_3 (by decide) ?_
  refine hv_callir (va_runV (As := [.int (nI c9), .int 0]) (rest := [.ref o]) ⟨hx, hb, hml, hown, hts⟩ (met_X5_of l G hM c9 0 (show 23 + 19 * c9 + 0 < 137 by omega)) (cwV 2 hts (lw_V q2740 q2742 qs59 q106 q2743) rfl rfl rfl (by decide +kernel) ⟨Nat.le_of_ble_eq_true rfl, Nat.le_of_ble_eq_true rfl⟩) (hv_preV hw pk_X5 hM.1) rfl rfl hl.1 rfl (lv_room (Nat.le_of_ble_eq_true rfl)) dX5_pays_4 ⟨Nat.le_of_ble_eq_true rfl, Nat.le_of_ble_eq_true rfl⟩) hw (fun H locs hw => ?_)
  refine lv_aload_n hx hb dX5_pays_7 rfl (lv_at hl 0 rfl) ?_
  refine lv_iload_n hx hb dX5_pays_8 rfl (lv_at hl 1 rfl) ?_
  refine lv_iload_n hx hb dX5_pays_9 rfl (lv_at hl 2 rfl) ?_
  refine hv_callir (va_runV (As := [.int (nI c9), .int (b01 au)]) (rest := [.int (σ.2 0 (23 + 19 * c9 + 0)), .ref o]) ⟨hx, hb, hml, hown, hts⟩ (met_X5_counts l G hM c9 (au) (show c9 < 6 by omega)) (cwV 2 hts (lw_V q2796 q2798 qs69 q106 q2799) rfl rfl rfl (by decide +kernel) ⟨Nat.le_of_ble_eq_true rfl, Nat.le_of_ble_eq_true rfl⟩) (hv_preV hw pk_X5 hM.1) rfl rfl hl.1 rfl (lv_room (Nat.le_of_ble_eq_true rfl)) dX5_pays_10 ⟨Nat.le_of_ble_eq_true rfl, Nat.le_of_ble_eq_true rfl⟩) hw (fun H locs hw => ?_)
  refine hv_callir (va_runV (As := [.int (σ.2 0 (23 + 19 * c9 + 0)), .int (o_counts (σ.2 0) c9 (au) 3)]) (rest := []) ⟨hx, hb, hml, hown, hts⟩ (met_X5_dues l G hM (σ.2 0 (23 + 19 * c9 + 0)) (o_counts (σ.2 0) c9 (au) 3) (hok)) (cwV 2 hts (lw_V q2800 q2802 qs70 q106 q2803) rfl rfl rfl (by decide +kernel) ⟨Nat.le_of_ble_eq_true rfl, Nat.le_of_ble_eq_true rfl⟩) (hv_preV hw pk_X5 hM.1) rfl rfl hl.1 rfl (lv_room (Nat.le_of_ble_eq_true rfl)) dX5_pays_13 ⟨Nat.le_of_ble_eq_true rfl, Nat.le_of_ble_eq_true rfl⟩) hw (fun H locs hw => ?_)
  refine lv_tope (y := o_d (σ.2 0) c9 au) rfl ?_
  refine lv_istore_n (lv' := [(3, .int (o_d (σ.2 0) c9 au)), (0, .ref o), (1, .int (nI c9)), (2, .int (b01 au))]) hx hb dX5_pays_16 rfl hl (by decide) rfl (fun ls hl => ?_)
  refine lv_iload_n hx hb dX5_pays_17 rfl (lv_at hl 3 rfl) ?_
  refine lv_if_eq (tgt := 32) hx hb dX5_pays_18 (by decide) (fun c18 => ?_) (fun c18 => ?_)
  · skip
    have c18 : ¬ (au) := b01_0.mp c18
    refine lv_iconst (v := 0) hx hb dX5_pays_32 (by decide) ?_
    refine lv_tope (y := o_fine (σ.2 0) c9 au) ((if_neg c18).symm) ?_
    refine lv_istore (lv' := [(4, .int (o_fine (σ.2 0) c9 au)), (3, .int (o_d (σ.2 0) c9 au)), (0, .ref o), (1, .int (nI c9)), (2, .int (b01 au))]) hx hb dX5_pays_33 hl (by decide) rfl (fun ls hl => ?_)
    refine lv_iload_n hx hb dX5_pays_35 rfl (lv_at hl 1 rfl) ?_
    refine lv_if_le (tgt := 51) hx hb dX5_pays_36 (by decide) (fun c36 => ?_) (fun c36 => ?_)
    · skip
      have eu : (o_ut (σ.2 0) c9 au) = (σ.2 0, 0) := if_neg (Int32.not_lt.mpr c36)
      have ef : (o_fresh (σ.2 0) c9 au) = -(o_d (σ.2 0) c9 au) / 100 := if_neg (Int32.not_lt.mpr c36)
      refine lv_iconst (v := 0) hx hb dX5_pays_51 (by decide) ?_
      have hM : isMod G h o ma (mo_na σ (o_ut (σ.2 0) c9 au).1) := by rw [eu]; show isMod G h o ma (mo_na σ (σ.2 0)); rw [mo_na_self]; exact hM
      refine lv_tope (y := (o_ut (σ.2 0) c9 au).2) (by rw [eu]) ?_
      have hU6 : (o_ut (σ.2 0) c9 au).1 (23 + 19 * c9 + 6) = nI (o_held (o_ut (σ.2 0) c9 au).1 c9) ∧ o_held (o_ut (σ.2 0) c9 au).1 c9 ≤ 3 := by have e6 : (o_ut (σ.2 0) c9 au).1 (23 + 19 * c9 + 6) = σ.2 0 (23 + 19 * c9 + 6) := o_ut_ne (fun i => by unfold o_at; omega); unfold o_held; rw [e6]; exact hhd
      refine lv_istore (lv' := [(5, .int ((o_ut (σ.2 0) c9 au).2)), (4, .int (o_fine (σ.2 0) c9 au)), (3, .int (o_d (σ.2 0) c9 au)), (0, .ref o), (1, .int (nI c9)), (2, .int (b01 au))]) hx hb dX5_pays_52 hl (by decide) rfl (fun ls hl => ?_)
      refine lv_aload_n hx hb dX5_pays_54 rfl (lv_at hl 3 rfl) ?_
      refine lv_iload_n hx hb dX5_pays_55 rfl (lv_at hl 4 rfl) ?_
      refine lv_iload_n hx hb dX5_pays_56 rfl (lv_at hl 2 rfl) ?_
      refine lv_if_le (tgt := 64) hx hb dX5_pays_57 (by decide) (fun c57 => ?_) (fun c57 => absurd (c36) c57)
      refine lv_iload_n hx hb dX5_pays_64 rfl (lv_at hl 2 rfl) ?_
      refine lv_ineg hx hb dX5_pays_65 ?_
      refine lv_bipush (v := 100) hx hb dX5_pays_66 (by decide) ?_
      refine lv_idiv hx hb dX5_pays_68 (by decide) ?_
      refine lv_tope (y := (o_fresh (σ.2 0) c9 au)) (ef.symm) ?_
      refine mo_callv (va_runV (As := [.int (nI c9), .int (o_fresh (σ.2 0) c9 au)]) (rest := []) ⟨hx, hb, hml, hown, hts⟩ (met_X5_ages l G hM c9 (o_fresh (σ.2 0) c9 au) (hU6) (show c9 < 6 by omega)) (cwV 2 hts (lw_V q2817 q2819 qs74 q106 q2820) rfl rfl rfl (by decide +kernel) ⟨Nat.le_of_ble_eq_true rfl, Nat.le_of_ble_eq_true rfl⟩) (hv_preV hw pk_X5 hM.1) rfl rfl hl.1 rfl (lv_room (Nat.le_of_ble_eq_true rfl)) dX5_pays_69 ⟨Nat.le_of_ble_eq_true rfl, Nat.le_of_ble_eq_true rfl⟩) hw hF (fun hh H locs hM hF hw => ?_)
      have hM : isMod G hh o ma (mo_na σ (o_b (σ.2 0) c9 au)) := by have h9 := hM; rw [mo_na_na] at h9; exact h9
      refine lv_aload_n hx hb dX5_pays_72 rfl (lv_at hl 3 rfl) ?_
      refine lv_iload_n hx hb dX5_pays_73 rfl (lv_at hl 4 rfl) ?_
      refine lv_iconst (v := 2) hx hb dX5_pays_74 (by decide) ?_
      refine hv_callir (va_runV (As := [.int (nI c9), .int 2]) (rest := []) ⟨hx, hb, hml, hown, hts⟩ (met_X5_of l G hM c9 2 (show 23 + 19 * c9 + 2 < 137 by omega)) (cwV 2 hts (lw_V q2740 q2742 qs59 q106 q2743) rfl rfl rfl (by decide +kernel) ⟨Nat.le_of_ble_eq_true rfl, Nat.le_of_ble_eq_true rfl⟩) (hv_preV hw pk_X5 hM.1) rfl rfl hl.1 rfl (lv_room (Nat.le_of_ble_eq_true rfl)) dX5_pays_75 ⟨Nat.le_of_ble_eq_true rfl, Nat.le_of_ble_eq_true rfl⟩) hw (fun H locs hw => ?_)
      refine lv_tope (y := (o_b (σ.2 0) c9 au) (23 + 19 * c9 + 2)) ((congrFun mo_na_2 _)) ?_
      refine lv_iload hx hb dX5_pays_78 (lv_at hl 0 rfl) ?_
      refine lv_iadd hx hb dX5_pays_80 ?_
      refine lv_iload hx hb dX5_pays_81 (lv_at hl 1 rfl) ?_
      refine lv_iadd hx hb dX5_pays_83 ?_
      refine lv_tope (y := o_due (σ.2 0) c9 au) rfl ?_
      refine lv_istore (lv' := [(6, .int (o_due (σ.2 0) c9 au)), (5, .int ((o_ut (σ.2 0) c9 au).2)), (4, .int (o_fine (σ.2 0) c9 au)), (3, .int (o_d (σ.2 0) c9 au)), (0, .ref o), (1, .int (nI c9)), (2, .int (b01 au))]) hx hb dX5_pays_84 hl (by decide) rfl (fun ls hl => ?_)
      refine lv_iload hx hb dX5_pays_86 (lv_at hl 0 rfl) ?_
      refine lv_aload_n hx hb dX5_pays_88 rfl (lv_at hl 4 rfl) ?_
      refine lv_iload_n hx hb dX5_pays_89 rfl (lv_at hl 5 rfl) ?_
      refine lv_iconst (v := 1) hx hb dX5_pays_90 (by decide) ?_
      refine hv_callir (va_runV (As := [.int (nI c9), .int 1]) (rest := [.int (o_due (σ.2 0) c9 au)]) ⟨hx, hb, hml, hown, hts⟩ (met_X5_of l G hM c9 1 (show 23 + 19 * c9 + 1 < 137 by omega)) (cwV 2 hts (lw_V q2740 q2742 qs59 q106 q2743) rfl rfl rfl (by decide +kernel) ⟨Nat.le_of_ble_eq_true rfl, Nat.le_of_ble_eq_true rfl⟩) (hv_preV hw pk_X5 hM.1) rfl rfl hl.1 rfl (lv_room (Nat.le_of_ble_eq_true rfl)) dX5_pays_91 ⟨Nat.le_of_ble_eq_true rfl, Nat.le_of_ble_eq_true rfl⟩) hw (fun H locs hw => ?_)
      refine lv_tope (y := (o_b (σ.2 0) c9 au) (23 + 19 * c9 + 1)) ((congrFun mo_na_2 _)) ?_
      refine va_mmin hx hb (hml.trans hl.1.symm) hown (hts _ q2772) (hts _ q554) (hts _ q113) (hts _ q555) (Nat.le_of_ble_eq_true rfl) (Nat.le_of_ble_eq_true rfl) (Nat.le_of_ble_eq_true rfl) (Nat.le_of_ble_eq_true rfl) dX5_pays_94 ?_
      refine lv_tope (y := mn (o_due (σ.2 0) c9 au) ((o_b (σ.2 0) c9 au) (23 + 19 * c9 + 1))) rfl ?_
      refine lv_tope (y := o_paid (σ.2 0) c9 au) rfl ?_
      refine lv_istore (lv' := [(7, .int (o_paid (σ.2 0) c9 au)), (6, .int (o_due (σ.2 0) c9 au)), (5, .int ((o_ut (σ.2 0) c9 au).2)), (4, .int (o_fine (σ.2 0) c9 au)), (3, .int (o_d (σ.2 0) c9 au)), (0, .ref o), (1, .int (nI c9)), (2, .int (b01 au))]) hx hb dX5_pays_97 hl (by decide) rfl (fun ls hl => ?_)
      refine lv_aload_n hx hb dX5_pays_99 rfl (lv_at hl 5 rfl) ?_
      refine lv_iload_n hx hb dX5_pays_100 rfl (lv_at hl 6 rfl) ?_
      refine lv_iconst (v := 1) hx hb dX5_pays_101 (by decide) ?_
      refine lv_iload hx hb dX5_pays_102 (lv_at hl 0 rfl) ?_
      refine lv_ineg hx hb dX5_pays_104 ?_
      refine mo_callv (va_runV (As := [.int (nI c9), .int 1, .int (-(o_paid (σ.2 0) c9 au))]) (rest := []) ⟨hx, hb, hml, hown, hts⟩ (met_X5_gets l G hM c9 1 (-(o_paid (σ.2 0) c9 au)) (show 23 + 19 * c9 + 1 < 137 by omega) ((o_b (σ.2 0) c9 au) (23 + 19 * c9 + 1)) (congrFun mo_na_2 _)) (cwV 3 hts (lw_V q2748 q2750 qs61 q106 q2751) rfl rfl rfl (by decide +kernel) ⟨Nat.le_of_ble_eq_true rfl, Nat.le_of_ble_eq_true rfl⟩) (hv_preV hw pk_X5 hM.1) rfl rfl hl.1 rfl (lv_room (Nat.le_of_ble_eq_true rfl)) dX5_pays_105 ⟨Nat.le_of_ble_eq_true rfl, Nat.le_of_ble_eq_true rfl⟩) hw hF (fun hh H locs hM hF hw => ?_)
      rw [mo_na_sa] at hM
      refine lv_aload_n hx hb dX5_pays_108 rfl (lv_at hl 5 rfl) ?_
      refine lv_iload_n hx hb dX5_pays_109 rfl (lv_at hl 6 rfl) ?_
      refine lv_iconst (v := 2) hx hb dX5_pays_110 (by decide) ?_
      refine lv_iload hx hb dX5_pays_111 (lv_at hl 1 rfl) ?_
      refine lv_iload hx hb dX5_pays_113 (lv_at hl 0 rfl) ?_
      refine lv_isub hx hb dX5_pays_115 ?_
      refine mo_callv (va_runV (As := [.int (nI c9), .int 2, .int ((o_due (σ.2 0) c9 au) - (o_paid (σ.2 0) c9 au))]) (rest := []) ⟨hx, hb, hml, hown, hts⟩ (met_X5_becomes l G hM c9 2 ((o_due (σ.2 0) c9 au) - (o_paid (σ.2 0) c9 au)) (show 23 + 19 * c9 + 2 < 137 by omega)) (cwV 3 hts (lw_V q2744 q2746 qs60 q106 q2747) rfl rfl rfl (by decide +kernel) ⟨Nat.le_of_ble_eq_true rfl, Nat.le_of_ble_eq_true rfl⟩) (hv_preV hw pk_X5 hM.1) rfl rfl hl.1 rfl (lv_room (Nat.le_of_ble_eq_true rfl)) dX5_pays_116 ⟨Nat.le_of_ble_eq_true rfl, Nat.le_of_ble_eq_true rfl⟩) hw hF (fun hh H locs hM hF hw => ?_)
      rw [mo_na_sa] at hM
      refine lv_aload_n hx hb dX5_pays_119 rfl (lv_at hl 5 rfl) ?_
      refine lv_iload_n hx hb dX5_pays_120 rfl (lv_at hl 6 rfl) ?_
      refine lv_iconst (v := 3) hx hb dX5_pays_121 (by decide) ?_
      refine lv_iload hx hb dX5_pays_122 (lv_at hl 2 rfl) ?_
      refine mo_callv (va_runV (As := [.int (nI c9), .int 3, .int ((o_ut (σ.2 0) c9 au).2)]) (rest := []) ⟨hx, hb, hml, hown, hts⟩ (met_X5_gets l G hM c9 3 ((o_ut (σ.2 0) c9 au).2) (show 23 + 19 * c9 + 3 < 137 by omega) ((o_b (σ.2 0) c9 au) (23 + 19 * c9 + 3)) ((congrFun mo_na_2 _).trans ((upd_ne (show 23 + 19 * c9 + 3 ≠ (23 + 19 * c9 + 2) by omega)).trans (upd_ne (show 23 + 19 * c9 + 3 ≠ (23 + 19 * c9 + 1) by omega))))) (cwV 3 hts (lw_V q2748 q2750 qs61 q106 q2751) rfl rfl rfl (by decide +kernel) ⟨Nat.le_of_ble_eq_true rfl, Nat.le_of_ble_eq_true rfl⟩) (hv_preV hw pk_X5 hM.1) rfl rfl hl.1 rfl (lv_room (Nat.le_of_ble_eq_true rfl)) dX5_pays_124 ⟨Nat.le_of_ble_eq_true rfl, Nat.le_of_ble_eq_true rfl⟩) hw hF (fun hh H locs hM hF hw => ?_)
      rw [mo_na_sa] at hM
      refine lv_aload_n hx hb dX5_pays_127 rfl (lv_at hl 5 rfl) ?_
      refine lv_iload_n hx hb dX5_pays_128 rfl (lv_at hl 6 rfl) ?_
      refine lv_iconst (v := 4) hx hb dX5_pays_129 (by decide) ?_
      refine lv_iload hx hb dX5_pays_130 (lv_at hl 3 rfl) ?_
      refine mo_callv (va_runV (As := [.int (nI c9), .int 4, .int (o_fine (σ.2 0) c9 au)]) (rest := []) ⟨hx, hb, hml, hown, hts⟩ (met_X5_gets l G hM c9 4 (o_fine (σ.2 0) c9 au) (show 23 + 19 * c9 + 4 < 137 by omega) ((o_b (σ.2 0) c9 au) (23 + 19 * c9 + 4)) ((congrFun mo_na_2 _).trans ((upd_ne (show 23 + 19 * c9 + 4 ≠ (23 + 19 * c9 + 3) by omega)).trans ((upd_ne (show 23 + 19 * c9 + 4 ≠ (23 + 19 * c9 + 2) by omega)).trans (upd_ne (show 23 + 19 * c9 + 4 ≠ (23 + 19 * c9 + 1) by omega)))))) (cwV 3 hts (lw_V q2748 q2750 qs61 q106 q2751) rfl rfl rfl (by decide +kernel) ⟨Nat.le_of_ble_eq_true rfl, Nat.le_of_ble_eq_true rfl⟩) (hv_preV hw pk_X5 hM.1) rfl rfl hl.1 rfl (lv_room (Nat.le_of_ble_eq_true rfl)) dX5_pays_132 ⟨Nat.le_of_ble_eq_true rfl, Nat.le_of_ble_eq_true rfl⟩) hw hF (fun hh H locs hM hF hw => ?_)
      rw [mo_na_sa] at hM
      refine lv_aload_n hx hb dX5_pays_135 rfl (lv_at hl 5 rfl) ?_
      refine lv_iload_n hx hb dX5_pays_136 rfl (lv_at hl 6 rfl) ?_
      refine lv_iconst (v := 5) hx hb dX5_pays_137 (by decide) ?_
      refine lv_iload_n hx hb dX5_pays_138 rfl (lv_at hl 7 rfl) ?_
      refine lv_mat0 (P := (b01 au) = 0) (j := 147) (fun k1 k2 => lv_if_eq (tgt := 146) hx hb dX5_pays_139 (by decide) (fun c => lv_iconst (v := 0) hx hb dX5_pays_146 (by decide) (k1 c)) (fun c => lv_iconst (v := 1) hx hb dX5_pays_142 (by decide) (lv_goto (tgt := 147) hx hb dX5_pays_143 (by decide) (k2 c)))) ?_
      refine lv_tope (y := b01 (au)) (b01_c b01_n) ?_
      refine mo_callv (va_runV (As := [.int (nI c9), .int 5, .int (b01 (au))]) (rest := []) ⟨hx, hb, hml, hown, hts⟩ (met_X5_gets l G hM c9 5 (b01 (au)) (show 23 + 19 * c9 + 5 < 137 by omega) ((o_b (σ.2 0) c9 au) (23 + 19 * c9 + 5)) ((congrFun mo_na_2 _).trans ((upd_ne (show 23 + 19 * c9 + 5 ≠ (23 + 19 * c9 + 4) by omega)).trans ((upd_ne (show 23 + 19 * c9 + 5 ≠ (23 + 19 * c9 + 3) by omega)).trans ((upd_ne (show 23 + 19 * c9 + 5 ≠ (23 + 19 * c9 + 2) by omega)).trans (upd_ne (show 23 + 19 * c9 + 5 ≠ (23 + 19 * c9 + 1) by omega))))))) (cwV 3 hts (lw_V q2748 q2750 qs61 q106 q2751) rfl rfl rfl (by decide +kernel) ⟨Nat.le_of_ble_eq_true rfl, Nat.le_of_ble_eq_true rfl⟩) (hv_preV hw pk_X5 hM.1) rfl rfl hl.1 rfl (lv_room (Nat.le_of_ble_eq_true rfl)) dX5_pays_147 ⟨Nat.le_of_ble_eq_true rfl, Nat.le_of_ble_eq_true rfl⟩) hw hF (fun hh H locs hM hF hw => ?_)
      rw [mo_na_sa] at hM
      refine lv_aload_n hx hb dX5_pays_150 rfl (lv_at hl 5 rfl) ?_
      refine lv_iload_n hx hb dX5_pays_151 rfl (lv_at hl 6 rfl) ?_
      refine lv_iconst (v := 0) hx hb dX5_pays_152 (by decide) ?_
      refine lv_iconst (v := 0) hx hb dX5_pays_153 (by decide) ?_
      refine mo_callv (va_runV (As := [.int (nI c9), .int 0, .int 0]) (rest := []) ⟨hx, hb, hml, hown, hts⟩ (met_X5_becomes l G hM c9 0 0 (show 23 + 19 * c9 + 0 < 137 by omega)) (cwV 3 hts (lw_V q2744 q2746 qs60 q106 q2747) rfl rfl rfl (by decide +kernel) ⟨Nat.le_of_ble_eq_true rfl, Nat.le_of_ble_eq_true rfl⟩) (hv_preV hw pk_X5 hM.1) rfl rfl hl.1 rfl (lv_room (Nat.le_of_ble_eq_true rfl)) dX5_pays_154 ⟨Nat.le_of_ble_eq_true rfl, Nat.le_of_ble_eq_true rfl⟩) hw hF (fun hh H locs hM hF hw => ?_)
      rw [mo_na_sa] at hM
      refine lv_iconst (v := 0) hx hb dX5_pays_157 (by decide) ?_
      refine lv_istore (lv' := [(8, .int 0), (7, .int (o_paid (σ.2 0) c9 au)), (6, .int (o_due (σ.2 0) c9 au)), (5, .int ((o_ut (σ.2 0) c9 au).2)), (4, .int (o_fine (σ.2 0) c9 au)), (3, .int (o_d (σ.2 0) c9 au)), (0, .ref o), (1, .int (nI c9)), (2, .int (b01 au))]) hx hb dX5_pays_158 hl (by decide) rfl (fun ls hl => ?_)
      have hM : isMod G hh o ma (mo_na σ (o_zero (upd (upd (upd (upd (upd (upd (o_b (σ.2 0) c9 au) (23 + 19 * c9 + 1) ((o_b (σ.2 0) c9 au) (23 + 19 * c9 + 1) + (-(o_paid (σ.2 0) c9 au)))) (23 + 19 * c9 + 2) ((o_due (σ.2 0) c9 au) - (o_paid (σ.2 0) c9 au))) (23 + 19 * c9 + 3) ((o_b (σ.2 0) c9 au) (23 + 19 * c9 + 3) + ((o_ut (σ.2 0) c9 au).2))) (23 + 19 * c9 + 4) ((o_b (σ.2 0) c9 au) (23 + 19 * c9 + 4) + (o_fine (σ.2 0) c9 au))) (23 + 19 * c9 + 5) ((o_b (σ.2 0) c9 au) (23 + 19 * c9 + 5) + (b01 (au)))) (23 + 19 * c9 + 0) 0) c9 13 0)) := hM
      have LP160 : ∀ (n160 : Nat) (k : Nat) (hh : hp) (H : Heap) (locs : List Loc) (ls : Array Slot), 6 - k < n160 → k ≤ 6 → isMod G hh o ma (mo_na σ (o_zero (upd (upd (upd (upd (upd (upd (o_b (σ.2 0) c9 au) (23 + 19 * c9 + 1) ((o_b (σ.2 0) c9 au) (23 + 19 * c9 + 1) + (-(o_paid (σ.2 0) c9 au)))) (23 + 19 * c9 + 2) ((o_due (σ.2 0) c9 au) - (o_paid (σ.2 0) c9 au))) (23 + 19 * c9 + 3) ((o_b (σ.2 0) c9 au) (23 + 19 * c9 + 3) + ((o_ut (σ.2 0) c9 au).2))) (23 + 19 * c9 + 4) ((o_b (σ.2 0) c9 au) (23 + 19 * c9 + 4) + (o_fine (σ.2 0) c9 au))) (23 + 19 * c9 + 5) ((o_b (σ.2 0) c9 au) (23 + 19 * c9 + 5) + (b01 (au)))) (23 + 19 * c9 + 0) 0) c9 13 k)) → mo_fr o ma h hh → hv_W G s hh H locs → lv_has ls 9 [(8, .int (nI k)), (7, .int (o_paid (σ.2 0) c9 au)), (6, .int (o_due (σ.2 0) c9 au)), (5, .int ((o_ut (σ.2 0) c9 au).2)), (4, .int (o_fine (σ.2 0) c9 au)), (3, .int (o_d (σ.2 0) c9 au)), (0, .ref o), (1, .int (nI c9)), (2, .int (b01 au))] → W p l e ({ frames := 4, cells := 0, slots := 0, locals := 91 } : Room) s m a below meth c H locs 0 0 Q (F0 m 160 ls []) := by
        intro n160
        induction n160 with
        | zero => exact fun k hh H locs ls hmu160 => absurd hmu160 (Nat.not_lt_zero _)
        | succ n160 ih160 =>
          intro k hh H locs ls hmu160 hkk hM hF hw hl
          refine lv_iload hx hb dX5_pays_160 (lv_at hl 0 rfl) ?_
          refine lv_bipush (v := 6) hx hb dX5_pays_162 (by decide) ?_
          refine lv_icmp_ge (tgt := 184) hx hb dX5_pays_164 (by decide) (fun c164 => ?_) (fun c164 => ?_)
          · skip
            have hxk : 6 ≤ k := cmp_le c164 rfl rfl (by omega) (by omega)
            obtain rfl : k = 6 := by omega
            refine lv_iload hx hb dX5_pays_184 (lv_at hl 1 rfl) ?_
            exact hret rfl hw ⟨rfl, hM, hF⟩ (Nat.le_of_ble_eq_true rfl) (Nat.le_of_ble_eq_true rfl) dX5_pays_186
          · skip
            have hxk : k < 6 := cmp_nle c164 rfl rfl (by omega) (by omega)
            refine lv_aload_n hx hb dX5_pays_167 rfl (lv_at hl 6 rfl) ?_
            refine lv_iload_n hx hb dX5_pays_168 rfl (lv_at hl 7 rfl) ?_
            refine lv_bipush (v := 13) hx hb dX5_pays_169 (by decide) ?_
            refine lv_iload hx hb dX5_pays_171 (lv_at hl 0 rfl) ?_
            refine lv_iadd hx hb dX5_pays_173 ?_
            refine lv_tope (y := nI (13 + k)) (by simp only [nI, Int32.ofNat_add, Int32.ofNat_mul] <;> rfl) ?_
            refine lv_iconst (v := 0) hx hb dX5_pays_174 (by decide) ?_
            refine mo_callv (va_runV (As := [.int (nI c9), .int (nI (13 + k)), .int 0]) (rest := []) ⟨hx, hb, hml, hown, hts⟩ (met_X5_becomes l G hM c9 (13 + k) 0 (show 23 + 19 * c9 + (13 + k) < 137 by omega)) (cwV 3 hts (lw_V q2744 q2746 qs60 q106 q2747) rfl rfl rfl (by decide +kernel) ⟨Nat.le_of_ble_eq_true rfl, Nat.le_of_ble_eq_true rfl⟩) (hv_preV hw pk_X5 hM.1) rfl rfl hl.1 rfl (lv_room (Nat.le_of_ble_eq_true rfl)) dX5_pays_175 ⟨Nat.le_of_ble_eq_true rfl, Nat.le_of_ble_eq_true rfl⟩) hw hF (fun hh H locs hM hF hw => ?_)
            rw [mo_na_sa] at hM
            refine lv_iinc (v := nI (k + 1)) (lv' := [(8, .int (nI (k + 1))), (7, .int (o_paid (σ.2 0) c9 au)), (6, .int (o_due (σ.2 0) c9 au)), (5, .int ((o_ut (σ.2 0) c9 au).2)), (4, .int (o_fine (σ.2 0) c9 au)), (3, .int (o_d (σ.2 0) c9 au)), (0, .ref o), (1, .int (nI c9)), (2, .int (b01 au))]) hx hb dX5_pays_178 hl (k := 0) rfl (by simp only [nI, Int32.ofNat_add] <;> rfl) (by decide) rfl (fun ls hl => ?_)
            refine lv_goto (tgt := 160) hx hb dX5_pays_181 (by decide) ?_
            exact ih160 (k + 1) _ _ _ _ (by omega) (by omega) hM hF hw (lv_sub hl [0, 1, 2, 3, 4, 5, 6, 7, 8] rfl)
      exact LP160 _ 0 _ _ _ _ (Nat.lt_succ_self _) (by omega) hM hF hw (lv_sub hl [0, 1, 2, 3, 4, 5, 6, 7, 8] rfl)
    · skip
      have eu : (o_ut (σ.2 0) c9 au) = o_use (σ.2 0) c9 ((o_d (σ.2 0) c9 au) / 100) (o_held (σ.2 0) c9) := if_pos (Int32.not_le.mp c36)
      have ef : (o_fresh (σ.2 0) c9 au) = 0 := if_pos (Int32.not_le.mp c36)
      refine lv_aload_n hx hb dX5_pays_39 rfl (lv_at hl 2 rfl) ?_
      refine lv_iload_n hx hb dX5_pays_40 rfl (lv_at hl 3 rfl) ?_
      refine lv_iload_n hx hb dX5_pays_41 rfl (lv_at hl 1 rfl) ?_
      refine lv_bipush (v := 100) hx hb dX5_pays_42 (by decide) ?_
      refine lv_idiv hx hb dX5_pays_44 (by decide) ?_
      refine mo_calli (va_runV (As := [.int (nI c9), .int ((o_d (σ.2 0) c9 au) / 100)]) (rest := []) ⟨hx, hb, hml, hown, hts⟩ (met_X5_uses l G hM c9 ((o_d (σ.2 0) c9 au) / 100) (hhd) (show c9 < 6 by omega)) (cwV 2 hts (lw_V q2813 q2815 qs73 q106 q2816) rfl rfl rfl (by decide +kernel) ⟨Nat.le_of_ble_eq_true rfl, Nat.le_of_ble_eq_true rfl⟩) (hv_preV hw pk_X5 hM.1) rfl rfl hl.1 rfl (lv_room (Nat.le_of_ble_eq_true rfl)) dX5_pays_45 ⟨Nat.le_of_ble_eq_true rfl, Nat.le_of_ble_eq_true rfl⟩) hw hF (fun hh H locs hM hF hw => ?_)
      refine lv_goto (tgt := 52) hx hb dX5_pays_48 (by decide) ?_
      have hM : isMod G hh o ma (mo_na σ (o_ut (σ.2 0) c9 au).1) := by rw [eu]; exact hM
      refine lv_tope (y := (o_ut (σ.2 0) c9 au).2) (by rw [eu]) ?_
      have hU6 : (o_ut (σ.2 0) c9 au).1 (23 + 19 * c9 + 6) = nI (o_held (o_ut (σ.2 0) c9 au).1 c9) ∧ o_held (o_ut (σ.2 0) c9 au).1 c9 ≤ 3 := by have e6 : (o_ut (σ.2 0) c9 au).1 (23 + 19 * c9 + 6) = σ.2 0 (23 + 19 * c9 + 6) := o_ut_ne (fun i => by unfold o_at; omega); unfold o_held; rw [e6]; exact hhd
      refine lv_istore (lv' := [(5, .int ((o_ut (σ.2 0) c9 au).2)), (4, .int (o_fine (σ.2 0) c9 au)), (3, .int (o_d (σ.2 0) c9 au)), (0, .ref o), (1, .int (nI c9)), (2, .int (b01 au))]) hx hb dX5_pays_52 hl (by decide) rfl (fun ls hl => ?_)
      refine lv_aload_n hx hb dX5_pays_54 rfl (lv_at hl 3 rfl) ?_
      refine lv_iload_n hx hb dX5_pays_55 rfl (lv_at hl 4 rfl) ?_
      refine lv_iload_n hx hb dX5_pays_56 rfl (lv_at hl 2 rfl) ?_
      refine lv_if_le (tgt := 64) hx hb dX5_pays_57 (by decide) (fun c57 => absurd c57 (c36)) (fun c57 => ?_)
      refine lv_iconst (v := 0) hx hb dX5_pays_60 (by decide) ?_
      refine lv_goto (tgt := 69) hx hb dX5_pays_61 (by decide) ?_
      refine lv_tope (y := (o_fresh (σ.2 0) c9 au)) (ef.symm) ?_
      refine mo_callv (va_runV (As := [.int (nI c9), .int (o_fresh (σ.2 0) c9 au)]) (rest := []) ⟨hx, hb, hml, hown, hts⟩ (met_X5_ages l G hM c9 (o_fresh (σ.2 0) c9 au) (hU6) (show c9 < 6 by omega)) (cwV 2 hts (lw_V q2817 q2819 qs74 q106 q2820) rfl rfl rfl (by decide +kernel) ⟨Nat.le_of_ble_eq_true rfl, Nat.le_of_ble_eq_true rfl⟩) (hv_preV hw pk_X5 hM.1) rfl rfl hl.1 rfl (lv_room (Nat.le_of_ble_eq_true rfl)) dX5_pays_69 ⟨Nat.le_of_ble_eq_true rfl, Nat.le_of_ble_eq_true rfl⟩) hw hF (fun hh H locs hM hF hw => ?_)
      have hM : isMod G hh o ma (mo_na σ (o_b (σ.2 0) c9 au)) := by have h9 := hM; rw [mo_na_na] at h9; exact h9
      refine lv_aload_n hx hb dX5_pays_72 rfl (lv_at hl 3 rfl) ?_
      refine lv_iload_n hx hb dX5_pays_73 rfl (lv_at hl 4 rfl) ?_
      refine lv_iconst (v := 2) hx hb dX5_pays_74 (by decide) ?_
      refine hv_callir (va_runV (As := [.int (nI c9), .int 2]) (rest := []) ⟨hx, hb, hml, hown, hts⟩ (met_X5_of l G hM c9 2 (show 23 + 19 * c9 + 2 < 137 by omega)) (cwV 2 hts (lw_V q2740 q2742 qs59 q106 q2743) rfl rfl rfl (by decide +kernel) ⟨Nat.le_of_ble_eq_true rfl, Nat.le_of_ble_eq_true rfl⟩) (hv_preV hw pk_X5 hM.1) rfl rfl hl.1 rfl (lv_room (Nat.le_of_ble_eq_true rfl)) dX5_pays_75 ⟨Nat.le_of_ble_eq_true rfl, Nat.le_of_ble_eq_true rfl⟩) hw (fun H locs hw => ?_)
      refine lv_tope (y := (o_b (σ.2 0) c9 au) (23 + 19 * c9 + 2)) ((congrFun mo_na_2 _)) ?_
      refine lv_iload hx hb dX5_pays_78 (lv_at hl 0 rfl) ?_
      refine lv_iadd hx hb dX5_pays_80 ?_
      refine lv_iload hx hb dX5_pays_81 (lv_at hl 1 rfl) ?_
      refine lv_iadd hx hb dX5_pays_83 ?_
      refine lv_tope (y := o_due (σ.2 0) c9 au) rfl ?_
      refine lv_istore (lv' := [(6, .int (o_due (σ.2 0) c9 au)), (5, .int ((o_ut (σ.2 0) c9 au).2)), (4, .int (o_fine (σ.2 0) c9 au)), (3, .int (o_d (σ.2 0) c9 au)), (0, .ref o), (1, .int (nI c9)), (2, .int (b01 au))]) hx hb dX5_pays_84 hl (by decide) rfl (fun ls hl => ?_)
      refine lv_iload hx hb dX5_pays_86 (lv_at hl 0 rfl) ?_
      refine lv_aload_n hx hb dX5_pays_88 rfl (lv_at hl 4 rfl) ?_
      refine lv_iload_n hx hb dX5_pays_89 rfl (lv_at hl 5 rfl) ?_
      refine lv_iconst (v := 1) hx hb dX5_pays_90 (by decide) ?_
      refine hv_callir (va_runV (As := [.int (nI c9), .int 1]) (rest := [.int (o_due (σ.2 0) c9 au)]) ⟨hx, hb, hml, hown, hts⟩ (met_X5_of l G hM c9 1 (show 23 + 19 * c9 + 1 < 137 by omega)) (cwV 2 hts (lw_V q2740 q2742 qs59 q106 q2743) rfl rfl rfl (by decide +kernel) ⟨Nat.le_of_ble_eq_true rfl, Nat.le_of_ble_eq_true rfl⟩) (hv_preV hw pk_X5 hM.1) rfl rfl hl.1 rfl (lv_room (Nat.le_of_ble_eq_true rfl)) dX5_pays_91 ⟨Nat.le_of_ble_eq_true rfl, Nat.le_of_ble_eq_true rfl⟩) hw (fun H locs hw => ?_)
      refine lv_tope (y := (o_b (σ.2 0) c9 au) (23 + 19 * c9 + 1)) ((congrFun mo_na_2 _)) ?_
      refine va_mmin hx hb (hml.trans hl.1.symm) hown (hts _ q2772) (hts _ q554) (hts _ q113) (hts _ q555) (Nat.le_of_ble_eq_true rfl) (Nat.le_of_ble_eq_true rfl) (Nat.le_of_ble_eq_true rfl) (Nat.le_of_ble_eq_true rfl) dX5_pays_94 ?_
      refine lv_tope (y := mn (o_due (σ.2 0) c9 au) ((o_b (σ.2 0) c9 au) (23 + 19 * c9 + 1))) rfl ?_
      refine lv_tope (y := o_paid (σ.2 0) c9 au) rfl ?_
      refine lv_istore (lv' := [(7, .int (o_paid (σ.2 0) c9 au)), (6, .int (o_due (σ.2 0) c9 au)), (5, .int ((o_ut (σ.2 0) c9 au).2)), (4, .int (o_fine (σ.2 0) c9 au)), (3, .int (o_d (σ.2 0) c9 au)), (0, .ref o), (1, .int (nI c9)), (2, .int (b01 au))]) hx hb dX5_pays_97 hl (by decide) rfl (fun ls hl => ?_)
      refine lv_aload_n hx hb dX5_pays_99 rfl (lv_at hl 5 rfl) ?_
      refine lv_iload_n hx hb dX5_pays_100 rfl (lv_at hl 6 rfl) ?_
      refine lv_iconst (v := 1) hx hb dX5_pays_101 (by decide) ?_
      refine lv_iload hx hb dX5_pays_102 (lv_at hl 0 rfl) ?_
      refine lv_ineg hx hb dX5_pays_104 ?_
      refine mo_callv (va_runV (As := [.int (nI c9), .int 1, .int (-(o_paid (σ.2 0) c9 au))]) (rest := []) ⟨hx, hb, hml, hown, hts⟩ (met_X5_gets l G hM c9 1 (-(o_paid (σ.2 0) c9 au)) (show 23 + 19 * c9 + 1 < 137 by omega) ((o_b (σ.2 0) c9 au) (23 + 19 * c9 + 1)) (congrFun mo_na_2 _)) (cwV 3 hts (lw_V q2748 q2750 qs61 q106 q2751) rfl rfl rfl (by decide +kernel) ⟨Nat.le_of_ble_eq_true rfl, Nat.le_of_ble_eq_true rfl⟩) (hv_preV hw pk_X5 hM.1) rfl rfl hl.1 rfl (lv_room (Nat.le_of_ble_eq_true rfl)) dX5_pays_105 ⟨Nat.le_of_ble_eq_true rfl, Nat.le_of_ble_eq_true rfl⟩) hw hF (fun hh H locs hM hF hw => ?_)
      rw [mo_na_sa] at hM
      refine lv_aload_n hx hb dX5_pays_108 rfl (lv_at hl 5 rfl) ?_
      refine lv_iload_n hx hb dX5_pays_109 rfl (lv_at hl 6 rfl) ?_
      refine lv_iconst (v := 2) hx hb dX5_pays_110 (by decide) ?_
      refine lv_iload hx hb dX5_pays_111 (lv_at hl 1 rfl) ?_
      refine lv_iload hx hb dX5_pays_113 (lv_at hl 0 rfl) ?_
      refine lv_isub hx hb dX5_pays_115 ?_
      refine mo_callv (va_runV (As := [.int (nI c9), .int 2, .int ((o_due (σ.2 0) c9 au) - (o_paid (σ.2 0) c9 au))]) (rest := []) ⟨hx, hb, hml, hown, hts⟩ (met_X5_becomes l G hM c9 2 ((o_due (σ.2 0) c9 au) - (o_paid (σ.2 0) c9 au)) (show 23 + 19 * c9 + 2 < 137 by omega)) (cwV 3 hts (lw_V q2744 q2746 qs60 q106 q2747) rfl rfl rfl (by decide +kernel) ⟨Nat.le_of_ble_eq_true rfl, Nat.le_of_ble_eq_true rfl⟩) (hv_preV hw pk_X5 hM.1) rfl rfl hl.1 rfl (lv_room (Nat.le_of_ble_eq_true rfl)) dX5_pays_116 ⟨Nat.le_of_ble_eq_true rfl, Nat.le_of_ble_eq_true rfl⟩) hw hF (fun hh H locs hM hF hw => ?_)
      rw [mo_na_sa] at hM
      refine lv_aload_n hx hb dX5_pays_119 rfl (lv_at hl 5 rfl) ?_
      refine lv_iload_n hx hb dX5_pays_120 rfl (lv_at hl 6 rfl) ?_
      refine lv_iconst (v := 3) hx hb dX5_pays_121 (by decide) ?_
      refine lv_iload hx hb dX5_pays_122 (lv_at hl 2 rfl) ?_
      refine mo_callv (va_runV (As := [.int (nI c9), .int 3, .int ((o_ut (σ.2 0) c9 au).2)]) (rest := []) ⟨hx, hb, hml, hown, hts⟩ (met_X5_gets l G hM c9 3 ((o_ut (σ.2 0) c9 au).2) (show 23 + 19 * c9 + 3 < 137 by omega) ((o_b (σ.2 0) c9 au) (23 + 19 * c9 + 3)) ((congrFun mo_na_2 _).trans ((upd_ne (show 23 + 19 * c9 + 3 ≠ (23 + 19 * c9 + 2) by omega)).trans (upd_ne (show 23 + 19 * c9 + 3 ≠ (23 + 19 * c9 + 1) by omega))))) (cwV 3 hts (lw_V q2748 q2750 qs61 q106 q2751) rfl rfl rfl (by decide +kernel) ⟨Nat.le_of_ble_eq_true rfl, Nat.le_of_ble_eq_true rfl⟩) (hv_preV hw pk_X5 hM.1) rfl rfl hl.1 rfl (lv_room (Nat.le_of_ble_eq_true rfl)) dX5_pays_124 ⟨Nat.le_of_ble_eq_true rfl, Nat.le_of_ble_eq_true rfl⟩) hw hF (fun hh H locs hM hF hw => ?_)
      rw [mo_na_sa] at hM
      refine lv_aload_n hx hb dX5_pays_127 rfl (lv_at hl 5 rfl) ?_
      refine lv_iload_n hx hb dX5_pays_128 rfl (lv_at hl 6 rfl) ?_
      refine lv_iconst (v := 4) hx hb dX5_pays_129 (by decide) ?_
      refine lv_iload hx hb dX5_pays_130 (lv_at hl 3 rfl) ?_
      refine mo_callv (va_runV (As := [.int (nI c9), .int 4, .int (o_fine (σ.2 0) c9 au)]) (rest := []) ⟨hx, hb, hml, hown, hts⟩ (met_X5_gets l G hM c9 4 (o_fine (σ.2 0) c9 au) (show 23 + 19 * c9 + 4 < 137 by omega) ((o_b (σ.2 0) c9 au) (23 + 19 * c9 + 4)) ((congrFun mo_na_2 _).trans ((upd_ne (show 23 + 19 * c9 + 4 ≠ (23 + 19 * c9 + 3) by omega)).trans ((upd_ne (show 23 + 19 * c9 + 4 ≠ (23 + 19 * c9 + 2) by omega)).trans (upd_ne (show 23 + 19 * c9 + 4 ≠ (23 + 19 * c9 + 1) by omega)))))) (cwV 3 hts (lw_V q2748 q2750 qs61 q106 q2751) rfl rfl rfl (by decide +kernel) ⟨Nat.le_of_ble_eq_true rfl, Nat.le_of_ble_eq_true rfl⟩) (hv_preV hw pk_X5 hM.1) rfl rfl hl.1 rfl (lv_room (Nat.le_of_ble_eq_true rfl)) dX5_pays_132 ⟨Nat.le_of_ble_eq_true rfl, Nat.le_of_ble_eq_true rfl⟩) hw hF (fun hh H locs hM hF hw => ?_)
      rw [mo_na_sa] at hM
      refine lv_aload_n hx hb dX5_pays_135 rfl (lv_at hl 5 rfl) ?_
      refine lv_iload_n hx hb dX5_pays_136 rfl (lv_at hl 6 rfl) ?_
      refine lv_iconst (v := 5) hx hb dX5_pays_137 (by decide) ?_
      refine lv_iload_n hx hb dX5_pays_138 rfl (lv_at hl 7 rfl) ?_
      refine lv_mat0 (P := (b01 au) = 0) (j := 147) (fun k1 k2 => lv_if_eq (tgt := 146) hx hb dX5_pays_139 (by decide) (fun c => lv_iconst (v := 0) hx hb dX5_pays_146 (by decide) (k1 c)) (fun c => lv_iconst (v := 1) hx hb dX5_pays_142 (by decide) (lv_goto (tgt := 147) hx hb dX5_pays_143 (by decide) (k2 c)))) ?_
      refine lv_tope (y := b01 (au)) (b01_c b01_n) ?_
      refine mo_callv (va_runV (As := [.int (nI c9), .int 5, .int (b01 (au))]) (rest := []) ⟨hx, hb, hml, hown, hts⟩ (met_X5_gets l G hM c9 5 (b01 (au)) (show 23 + 19 * c9 + 5 < 137 by omega) ((o_b (σ.2 0) c9 au) (23 + 19 * c9 + 5)) ((congrFun mo_na_2 _).trans ((upd_ne (show 23 + 19 * c9 + 5 ≠ (23 + 19 * c9 + 4) by omega)).trans ((upd_ne (show 23 + 19 * c9 + 5 ≠ (23 + 19 * c9 + 3) by omega)).trans ((upd_ne (show 23 + 19 * c9 + 5 ≠ (23 + 19 * c9 + 2) by omega)).trans (upd_ne (show 23 + 19 * c9 + 5 ≠ (23 + 19 * c9 + 1) by omega))))))) (cwV 3 hts (lw_V q2748 q2750 qs61 q106 q2751) rfl rfl rfl (by decide +kernel) ⟨Nat.le_of_ble_eq_true rfl, Nat.le_of_ble_eq_true rfl⟩) (hv_preV hw pk_X5 hM.1) rfl rfl hl.1 rfl (lv_room (Nat.le_of_ble_eq_true rfl)) dX5_pays_147 ⟨Nat.le_of_ble_eq_true rfl, Nat.le_of_ble_eq_true rfl⟩) hw hF (fun hh H locs hM hF hw => ?_)
      rw [mo_na_sa] at hM
      refine lv_aload_n hx hb dX5_pays_150 rfl (lv_at hl 5 rfl) ?_
      refine lv_iload_n hx hb dX5_pays_151 rfl (lv_at hl 6 rfl) ?_
      refine lv_iconst (v := 0) hx hb dX5_pays_152 (by decide) ?_
      refine lv_iconst (v := 0) hx hb dX5_pays_153 (by decide) ?_
      refine mo_callv (va_runV (As := [.int (nI c9), .int 0, .int 0]) (rest := []) ⟨hx, hb, hml, hown, hts⟩ (met_X5_becomes l G hM c9 0 0 (show 23 + 19 * c9 + 0 < 137 by omega)) (cwV 3 hts (lw_V q2744 q2746 qs60 q106 q2747) rfl rfl rfl (by decide +kernel) ⟨Nat.le_of_ble_eq_true rfl, Nat.le_of_ble_eq_true rfl⟩) (hv_preV hw pk_X5 hM.1) rfl rfl hl.1 rfl (lv_room (Nat.le_of_ble_eq_true rfl)) dX5_pays_154 ⟨Nat.le_of_ble_eq_true rfl, Nat.le_of_ble_eq_true rfl⟩) hw hF (fun hh H locs hM hF hw => ?_)
      rw [mo_na_sa] at hM
      refine lv_iconst (v := 0) hx hb dX5_pays_157 (by decide) ?_
      refine lv_istore (lv' := [(8, .int 0), (7, .int (o_paid (σ.2 0) c9 au)), (6, .int (o_due (σ.2 0) c9 au)), (5, .int ((o_ut (σ.2 0) c9 au).2)), (4, .int (o_fine (σ.2 0) c9 au)), (3, .int (o_d (σ.2 0) c9 au)), (0, .ref o), (1, .int (nI c9)), (2, .int (b01 au))]) hx hb dX5_pays_158 hl (by decide) rfl (fun ls hl => ?_)
      have hM : isMod G hh o ma (mo_na σ (o_zero (upd (upd (upd (upd (upd (upd (o_b (σ.2 0) c9 au) (23 + 19 * c9 + 1) ((o_b (σ.2 0) c9 au) (23 + 19 * c9 + 1) + (-(o_paid (σ.2 0) c9 au)))) (23 + 19 * c9 + 2) ((o_due (σ.2 0) c9 au) - (o_paid (σ.2 0) c9 au))) (23 + 19 * c9 + 3) ((o_b (σ.2 0) c9 au) (23 + 19 * c9 + 3) + ((o_ut (σ.2 0) c9 au).2))) (23 + 19 * c9 + 4) ((o_b (σ.2 0) c9 au) (23 + 19 * c9 + 4) + (o_fine (σ.2 0) c9 au))) (23 + 19 * c9 + 5) ((o_b (σ.2 0) c9 au) (23 + 19 * c9 + 5) + (b01 (au)))) (23 + 19 * c9 + 0) 0) c9 13 0)) := hM
      have LP160 : ∀ (n160 : Nat) (k : Nat) (hh : hp) (H : Heap) (locs : List Loc) (ls : Array Slot), 6 - k < n160 → k ≤ 6 → isMod G hh o ma (mo_na σ (o_zero (upd (upd (upd (upd (upd (upd (o_b (σ.2 0) c9 au) (23 + 19 * c9 + 1) ((o_b (σ.2 0) c9 au) (23 + 19 * c9 + 1) + (-(o_paid (σ.2 0) c9 au)))) (23 + 19 * c9 + 2) ((o_due (σ.2 0) c9 au) - (o_paid (σ.2 0) c9 au))) (23 + 19 * c9 + 3) ((o_b (σ.2 0) c9 au) (23 + 19 * c9 + 3) + ((o_ut (σ.2 0) c9 au).2))) (23 + 19 * c9 + 4) ((o_b (σ.2 0) c9 au) (23 + 19 * c9 + 4) + (o_fine (σ.2 0) c9 au))) (23 + 19 * c9 + 5) ((o_b (σ.2 0) c9 au) (23 + 19 * c9 + 5) + (b01 (au)))) (23 + 19 * c9 + 0) 0) c9 13 k)) → mo_fr o ma h hh → hv_W G s hh H locs → lv_has ls 9 [(8, .int (nI k)), (7, .int (o_paid (σ.2 0) c9 au)), (6, .int (o_due (σ.2 0) c9 au)), (5, .int ((o_ut (σ.2 0) c9 au).2)), (4, .int (o_fine (σ.2 0) c9 au)), (3, .int (o_d (σ.2 0) c9 au)), (0, .ref o), (1, .int (nI c9)), (2, .int (b01 au))] → W p l e ({ frames := 4, cells := 0, slots := 0, locals := 91 } : Room) s m a below meth c H locs 0 0 Q (F0 m 160 ls []) := by
        intro n160
        induction n160 with
        | zero => exact fun k hh H locs ls hmu160 => absurd hmu160 (Nat.not_lt_zero _)
        | succ n160 ih160 =>
          intro k hh H locs ls hmu160 hkk hM hF hw hl
          refine lv_iload hx hb dX5_pays_160 (lv_at hl 0 rfl) ?_
          refine lv_bipush (v := 6) hx hb dX5_pays_162 (by decide) ?_
          refine lv_icmp_ge (tgt := 184) hx hb dX5_pays_164 (by decide) (fun c164 => ?_) (fun c164 => ?_)
          · skip
            have hxk : 6 ≤ k := cmp_le c164 rfl rfl (by omega) (by omega)
            obtain rfl : k = 6 := by omega
            refine lv_iload hx hb dX5_pays_184 (lv_at hl 1 rfl) ?_
            exact hret rfl hw ⟨rfl, hM, hF⟩ (Nat.le_of_ble_eq_true rfl) (Nat.le_of_ble_eq_true rfl) dX5_pays_186
          · skip
            have hxk : k < 6 := cmp_nle c164 rfl rfl (by omega) (by omega)
            refine lv_aload_n hx hb dX5_pays_167 rfl (lv_at hl 6 rfl) ?_
            refine lv_iload_n hx hb dX5_pays_168 rfl (lv_at hl 7 rfl) ?_
            refine lv_bipush (v := 13) hx hb dX5_pays_169 (by decide) ?_
            refine lv_iload hx hb dX5_pays_171 (lv_at hl 0 rfl) ?_
            refine lv_iadd hx hb dX5_pays_173 ?_
            refine lv_tope (y := nI (13 + k)) (by simp only [nI, Int32.ofNat_add, Int32.ofNat_mul] <;> rfl) ?_
            refine lv_iconst (v := 0) hx hb dX5_pays_174 (by decide) ?_
            refine mo_callv (va_runV (As := [.int (nI c9), .int (nI (13 + k)), .int 0]) (rest := []) ⟨hx, hb, hml, hown, hts⟩ (met_X5_becomes l G hM c9 (13 + k) 0 (show 23 + 19 * c9 + (13 + k) < 137 by omega)) (cwV 3 hts (lw_V q2744 q2746 qs60 q106 q2747) rfl rfl rfl (by decide +kernel) ⟨Nat.le_of_ble_eq_true rfl, Nat.le_of_ble_eq_true rfl⟩) (hv_preV hw pk_X5 hM.1) rfl rfl hl.1 rfl (lv_room (Nat.le_of_ble_eq_true rfl)) dX5_pays_175 ⟨Nat.le_of_ble_eq_true rfl, Nat.le_of_ble_eq_true rfl⟩) hw hF (fun hh H locs hM hF hw => ?_)
            rw [mo_na_sa] at hM
            refine lv_iinc (v := nI (k + 1)) (lv' := [(8, .int (nI (k + 1))), (7, .int (o_paid (σ.2 0) c9 au)), (6, .int (o_due (σ.2 0) c9 au)), (5, .int ((o_ut (σ.2 0) c9 au).2)), (4, .int (o_fine (σ.2 0) c9 au)), (3, .int (o_d (σ.2 0) c9 au)), (0, .ref o), (1, .int (nI c9)), (2, .int (b01 au))]) hx hb dX5_pays_178 hl (k := 0) rfl (by simp only [nI, Int32.ofNat_add] <;> rfl) (by decide) rfl (fun ls hl => ?_)
            refine lv_goto (tgt := 160) hx hb dX5_pays_181 (by decide) ?_
            exact ih160 (k + 1) _ _ _ _ (by omega) (by omega) hM hF hw (lv_sub hl [0, 1, 2, 3, 4, 5, 6, 7, 8] rfl)
      exact LP160 _ 0 _ _ _ _ (Nat.lt_succ_self _) (by omega) hM hF hw (lv_sub hl [0, 1, 2, 3, 4, 5, 6, 7, 8] rfl)
  · skip
    have c18 : au := b01_n.mp c18
    refine lv_aload_n hx hb dX5_pays_21 rfl (lv_at hl 1 rfl) ?_
    refine lv_iload_n hx hb dX5_pays_22 rfl (lv_at hl 2 rfl) ?_
    refine hv_callir (va_runV (As := [.int (nI c9)]) (rest := []) ⟨hx, hb, hml, hown, hts⟩ (met_X5_allUnproved l G hM c9 (show c9 < 6 by omega)) (cwV 1 hts (lw_V q2809 q2811 qs72 q106 q2812) rfl rfl rfl (by decide +kernel) ⟨Nat.le_of_ble_eq_true rfl, Nat.le_of_ble_eq_true rfl⟩) (hv_preV hw pk_X5 hM.1) rfl rfl hl.1 rfl (lv_room (Nat.le_of_ble_eq_true rfl)) dX5_pays_23 ⟨Nat.le_of_ble_eq_true rfl, Nat.le_of_ble_eq_true rfl⟩) hw (fun H locs hw => ?_)
    refine lv_bipush (v := 10) hx hb dX5_pays_26 (by decide) ?_
    refine lv_idiv hx hb dX5_pays_28 (by decide) ?_
    refine lv_goto (tgt := 33) hx hb dX5_pays_29 (by decide) ?_
    refine lv_tope (y := o_fine (σ.2 0) c9 au) ((if_pos c18).symm) ?_
    refine lv_istore (lv' := [(4, .int (o_fine (σ.2 0) c9 au)), (3, .int (o_d (σ.2 0) c9 au)), (0, .ref o), (1, .int (nI c9)), (2, .int (b01 au))]) hx hb dX5_pays_33 hl (by decide) rfl (fun ls hl => ?_)
    refine lv_iload_n hx hb dX5_pays_35 rfl (lv_at hl 1 rfl) ?_
    refine lv_if_le (tgt := 51) hx hb dX5_pays_36 (by decide) (fun c36 => ?_) (fun c36 => ?_)
    · skip
      have eu : (o_ut (σ.2 0) c9 au) = (σ.2 0, 0) := if_neg (Int32.not_lt.mpr c36)
      have ef : (o_fresh (σ.2 0) c9 au) = -(o_d (σ.2 0) c9 au) / 100 := if_neg (Int32.not_lt.mpr c36)
      refine lv_iconst (v := 0) hx hb dX5_pays_51 (by decide) ?_
      have hM : isMod G h o ma (mo_na σ (o_ut (σ.2 0) c9 au).1) := by rw [eu]; show isMod G h o ma (mo_na σ (σ.2 0)); rw [mo_na_self]; exact hM
      refine lv_tope (y := (o_ut (σ.2 0) c9 au).2) (by rw [eu]) ?_
      have hU6 : (o_ut (σ.2 0) c9 au).1 (23 + 19 * c9 + 6) = nI (o_held (o_ut (σ.2 0) c9 au).1 c9) ∧ o_held (o_ut (σ.2 0) c9 au).1 c9 ≤ 3 := by have e6 : (o_ut (σ.2 0) c9 au).1 (23 + 19 * c9 + 6) = σ.2 0 (23 + 19 * c9 + 6) := o_ut_ne (fun i => by unfold o_at; omega); unfold o_held; rw [e6]; exact hhd
      refine lv_istore (lv' := [(5, .int ((o_ut (σ.2 0) c9 au).2)), (4, .int (o_fine (σ.2 0) c9 au)), (3, .int (o_d (σ.2 0) c9 au)), (0, .ref o), (1, .int (nI c9)), (2, .int (b01 au))]) hx hb dX5_pays_52 hl (by decide) rfl (fun ls hl => ?_)
      refine lv_aload_n hx hb dX5_pays_54 rfl (lv_at hl 3 rfl) ?_
      refine lv_iload_n hx hb dX5_pays_55 rfl (lv_at hl 4 rfl) ?_
      refine lv_iload_n hx hb dX5_pays_56 rfl (lv_at hl 2 rfl) ?_
      refine lv_if_le (tgt := 64) hx hb dX5_pays_57 (by decide) (fun c57 => ?_) (fun c57 => absurd (c36) c57)
      refine lv_iload_n hx hb dX5_pays_64 rfl (lv_at hl 2 rfl) ?_
      refine lv_ineg hx hb dX5_pays_65 ?_
      refine lv_bipush (v := 100) hx hb dX5_pays_66 (by decide) ?_
      refine lv_idiv hx hb dX5_pays_68 (by decide) ?_
      refine lv_tope (y := (o_fresh (σ.2 0) c9 au)) (ef.symm) ?_
      refine mo_callv (va_runV (As := [.int (nI c9), .int (o_fresh (σ.2 0) c9 au)]) (rest := []) ⟨hx, hb, hml, hown, hts⟩ (met_X5_ages l G hM c9 (o_fresh (σ.2 0) c9 au) (hU6) (show c9 < 6 by omega)) (cwV 2 hts (lw_V q2817 q2819 qs74 q106 q2820) rfl rfl rfl (by decide +kernel) ⟨Nat.le_of_ble_eq_true rfl, Nat.le_of_ble_eq_true rfl⟩) (hv_preV hw pk_X5 hM.1) rfl rfl hl.1 rfl (lv_room (Nat.le_of_ble_eq_true rfl)) dX5_pays_69 ⟨Nat.le_of_ble_eq_true rfl, Nat.le_of_ble_eq_true rfl⟩) hw hF (fun hh H locs hM hF hw => ?_)
      have hM : isMod G hh o ma (mo_na σ (o_b (σ.2 0) c9 au)) := by have h9 := hM; rw [mo_na_na] at h9; exact h9
      refine lv_aload_n hx hb dX5_pays_72 rfl (lv_at hl 3 rfl) ?_
      refine lv_iload_n hx hb dX5_pays_73 rfl (lv_at hl 4 rfl) ?_
      refine lv_iconst (v := 2) hx hb dX5_pays_74 (by decide) ?_
      refine hv_callir (va_runV (As := [.int (nI c9), .int 2]) (rest := []) ⟨hx, hb, hml, hown, hts⟩ (met_X5_of l G hM c9 2 (show 23 + 19 * c9 + 2 < 137 by omega)) (cwV 2 hts (lw_V q2740 q2742 qs59 q106 q2743) rfl rfl rfl (by decide +kernel) ⟨Nat.le_of_ble_eq_true rfl, Nat.le_of_ble_eq_true rfl⟩) (hv_preV hw pk_X5 hM.1) rfl rfl hl.1 rfl (lv_room (Nat.le_of_ble_eq_true rfl)) dX5_pays_75 ⟨Nat.le_of_ble_eq_true rfl, Nat.le_of_ble_eq_true rfl⟩) hw (fun H locs hw => ?_)
      refine lv_tope (y := (o_b (σ.2 0) c9 au) (23 + 19 * c9 + 2)) ((congrFun mo_na_2 _)) ?_
      refine lv_iload hx hb dX5_pays_78 (lv_at hl 0 rfl) ?_
      refine lv_iadd hx hb dX5_pays_80 ?_
      refine lv_iload hx hb dX5_pays_81 (lv_at hl 1 rfl) ?_
      refine lv_iadd hx hb dX5_pays_83 ?_
      refine lv_tope (y := o_due (σ.2 0) c9 au) rfl ?_
      refine lv_istore (lv' := [(6, .int (o_due (σ.2 0) c9 au)), (5, .int ((o_ut (σ.2 0) c9 au).2)), (4, .int (o_fine (σ.2 0) c9 au)), (3, .int (o_d (σ.2 0) c9 au)), (0, .ref o), (1, .int (nI c9)), (2, .int (b01 au))]) hx hb dX5_pays_84 hl (by decide) rfl (fun ls hl => ?_)
      refine lv_iload hx hb dX5_pays_86 (lv_at hl 0 rfl) ?_
      refine lv_aload_n hx hb dX5_pays_88 rfl (lv_at hl 4 rfl) ?_
      refine lv_iload_n hx hb dX5_pays_89 rfl (lv_at hl 5 rfl) ?_
      refine lv_iconst (v := 1) hx hb dX5_pays_90 (by decide) ?_
      refine hv_callir (va_runV (As := [.int (nI c9), .int 1]) (rest := [.int (o_due (σ.2 0) c9 au)]) ⟨hx, hb, hml, hown, hts⟩ (met_X5_of l G hM c9 1 (show 23 + 19 * c9 + 1 < 137 by omega)) (cwV 2 hts (lw_V q2740 q2742 qs59 q106 q2743) rfl rfl rfl (by decide +kernel) ⟨Nat.le_of_ble_eq_true rfl, Nat.le_of_ble_eq_true rfl⟩) (hv_preV hw pk_X5 hM.1) rfl rfl hl.1 rfl (lv_room (Nat.le_of_ble_eq_true rfl)) dX5_pays_91 ⟨Nat.le_of_ble_eq_true rfl, Nat.le_of_ble_eq_true rfl⟩) hw (fun H locs hw => ?_)
      refine lv_tope (y := (o_b (σ.2 0) c9 au) (23 + 19 * c9 + 1)) ((congrFun mo_na_2 _)) ?_
      refine va_mmin hx hb (hml.trans hl.1.symm) hown (hts _ q2772) (hts _ q554) (hts _ q113) (hts _ q555) (Nat.le_of_ble_eq_true rfl) (Nat.le_of_ble_eq_true rfl) (Nat.le_of_ble_eq_true rfl) (Nat.le_of_ble_eq_true rfl) dX5_pays_94 ?_
      refine lv_tope (y := mn (o_due (σ.2 0) c9 au) ((o_b (σ.2 0) c9 au) (23 + 19 * c9 + 1))) rfl ?_
      refine lv_tope (y := o_paid (σ.2 0) c9 au) rfl ?_
      refine lv_istore (lv' := [(7, .int (o_paid (σ.2 0) c9 au)), (6, .int (o_due (σ.2 0) c9 au)), (5, .int ((o_ut (σ.2 0) c9 au).2)), (4, .int (o_fine (σ.2 0) c9 au)), (3, .int (o_d (σ.2 0) c9 au)), (0, .ref o), (1, .int (nI c9)), (2, .int (b01 au))]) hx hb dX5_pays_97 hl (by decide) rfl (fun ls hl => ?_)
      refine lv_aload_n hx hb dX5_pays_99 rfl (lv_at hl 5 rfl) ?_
      refine lv_iload_n hx hb dX5_pays_100 rfl (lv_at hl 6 rfl) ?_
      refine lv_iconst (v := 1) hx hb dX5_pays_101 (by decide) ?_
      refine lv_iload hx hb dX5_pays_102 (lv_at hl 0 rfl) ?_
      refine lv_ineg hx hb dX5_pays_104 ?_
      refine mo_callv (va_runV (As := [.int (nI c9), .int 1, .int (-(o_paid (σ.2 0) c9 au))]) (rest := []) ⟨hx, hb, hml, hown, hts⟩ (met_X5_gets l G hM c9 1 (-(o_paid (σ.2 0) c9 au)) (show 23 + 19 * c9 + 1 < 137 by omega) ((o_b (σ.2 0) c9 au) (23 + 19 * c9 + 1)) (congrFun mo_na_2 _)) (cwV 3 hts (lw_V q2748 q2750 qs61 q106 q2751) rfl rfl rfl (by decide +kernel) ⟨Nat.le_of_ble_eq_true rfl, Nat.le_of_ble_eq_true rfl⟩) (hv_preV hw pk_X5 hM.1) rfl rfl hl.1 rfl (lv_room (Nat.le_of_ble_eq_true rfl)) dX5_pays_105 ⟨Nat.le_of_ble_eq_true rfl, Nat.le_of_ble_eq_true rfl⟩) hw hF (fun hh H locs hM hF hw => ?_)
      rw [mo_na_sa] at hM
      refine lv_aload_n hx hb dX5_pays_108 rfl (lv_at hl 5 rfl) ?_
      refine lv_iload_n hx hb dX5_pays_109 rfl (lv_at hl 6 rfl) ?_
      refine lv_iconst (v := 2) hx hb dX5_pays_110 (by decide) ?_
      refine lv_iload hx hb dX5_pays_111 (lv_at hl 1 rfl) ?_
      refine lv_iload hx hb dX5_pays_113 (lv_at hl 0 rfl) ?_
      refine lv_isub hx hb dX5_pays_115 ?_
      refine mo_callv (va_runV (As := [.int (nI c9), .int 2, .int ((o_due (σ.2 0) c9 au) - (o_paid (σ.2 0) c9 au))]) (rest := []) ⟨hx, hb, hml, hown, hts⟩ (met_X5_becomes l G hM c9 2 ((o_due (σ.2 0) c9 au) - (o_paid (σ.2 0) c9 au)) (show 23 + 19 * c9 + 2 < 137 by omega)) (cwV 3 hts (lw_V q2744 q2746 qs60 q106 q2747) rfl rfl rfl (by decide +kernel) ⟨Nat.le_of_ble_eq_true rfl, Nat.le_of_ble_eq_true rfl⟩) (hv_preV hw pk_X5 hM.1) rfl rfl hl.1 rfl (lv_room (Nat.le_of_ble_eq_true rfl)) dX5_pays_116 ⟨Nat.le_of_ble_eq_true rfl, Nat.le_of_ble_eq_true rfl⟩) hw hF (fun hh H locs hM hF hw => ?_)
      rw [mo_na_sa] at hM
      refine lv_aload_n hx hb dX5_pays_119 rfl (lv_at hl 5 rfl) ?_
      refine lv_iload_n hx hb dX5_pays_120 rfl (lv_at hl 6 rfl) ?_
      refine lv_iconst (v := 3) hx hb dX5_pays_121 (by decide) ?_
      refine lv_iload hx hb dX5_pays_122 (lv_at hl 2 rfl) ?_
      refine mo_callv (va_runV (As := [.int (nI c9), .int 3, .int ((o_ut (σ.2 0) c9 au).2)]) (rest := []) ⟨hx, hb, hml, hown, hts⟩ (met_X5_gets l G hM c9 3 ((o_ut (σ.2 0) c9 au).2) (show 23 + 19 * c9 + 3 < 137 by omega) ((o_b (σ.2 0) c9 au) (23 + 19 * c9 + 3)) ((congrFun mo_na_2 _).trans ((upd_ne (show 23 + 19 * c9 + 3 ≠ (23 + 19 * c9 + 2) by omega)).trans (upd_ne (show 23 + 19 * c9 + 3 ≠ (23 + 19 * c9 + 1) by omega))))) (cwV 3 hts (lw_V q2748 q2750 qs61 q106 q2751) rfl rfl rfl (by decide +kernel) ⟨Nat.le_of_ble_eq_true rfl, Nat.le_of_ble_eq_true rfl⟩) (hv_preV hw pk_X5 hM.1) rfl rfl hl.1 rfl (lv_room (Nat.le_of_ble_eq_true rfl)) dX5_pays_124 ⟨Nat.le_of_ble_eq_true rfl, Nat.le_of_ble_eq_true rfl⟩) hw hF (fun hh H locs hM hF hw => ?_)
      rw [mo_na_sa] at hM
      refine lv_aload_n hx hb dX5_pays_127 rfl (lv_at hl 5 rfl) ?_
      refine lv_iload_n hx hb dX5_pays_128 rfl (lv_at hl 6 rfl) ?_
      refine lv_iconst (v := 4) hx hb dX5_pays_129 (by decide) ?_
      refine lv_iload hx hb dX5_pays_130 (lv_at hl 3 rfl) ?_
      refine mo_callv (va_runV (As := [.int (nI c9), .int 4, .int (o_fine (σ.2 0) c9 au)]) (rest := []) ⟨hx, hb, hml, hown, hts⟩ (met_X5_gets l G hM c9 4 (o_fine (σ.2 0) c9 au) (show 23 + 19 * c9 + 4 < 137 by omega) ((o_b (σ.2 0) c9 au) (23 + 19 * c9 + 4)) ((congrFun mo_na_2 _).trans ((upd_ne (show 23 + 19 * c9 + 4 ≠ (23 + 19 * c9 + 3) by omega)).trans ((upd_ne (show 23 + 19 * c9 + 4 ≠ (23 + 19 * c9 + 2) by omega)).trans (upd_ne (show 23 + 19 * c9 + 4 ≠ (23 + 19 * c9 + 1) by omega)))))) (cwV 3 hts (lw_V q2748 q2750 qs61 q106 q2751) rfl rfl rfl (by decide +kernel) ⟨Nat.le_of_ble_eq_true rfl, Nat.le_of_ble_eq_true rfl⟩) (hv_preV hw pk_X5 hM.1) rfl rfl hl.1 rfl (lv_room (Nat.le_of_ble_eq_true rfl)) dX5_pays_132 ⟨Nat.le_of_ble_eq_true rfl, Nat.le_of_ble_eq_true rfl⟩) hw hF (fun hh H locs hM hF hw => ?_)
      rw [mo_na_sa] at hM
      refine lv_aload_n hx hb dX5_pays_135 rfl (lv_at hl 5 rfl) ?_
      refine lv_iload_n hx hb dX5_pays_136 rfl (lv_at hl 6 rfl) ?_
      refine lv_iconst (v := 5) hx hb dX5_pays_137 (by decide) ?_
      refine lv_iload_n hx hb dX5_pays_138 rfl (lv_at hl 7 rfl) ?_
      refine lv_mat0 (P := (b01 au) = 0) (j := 147) (fun k1 k2 => lv_if_eq (tgt := 146) hx hb dX5_pays_139 (by decide) (fun c => lv_iconst (v := 0) hx hb dX5_pays_146 (by decide) (k1 c)) (fun c => lv_iconst (v := 1) hx hb dX5_pays_142 (by decide) (lv_goto (tgt := 147) hx hb dX5_pays_143 (by decide) (k2 c)))) ?_
      refine lv_tope (y := b01 (au)) (b01_c b01_n) ?_
      refine mo_callv (va_runV (As := [.int (nI c9), .int 5, .int (b01 (au))]) (rest := []) ⟨hx, hb, hml, hown, hts⟩ (met_X5_gets l G hM c9 5 (b01 (au)) (show 23 + 19 * c9 + 5 < 137 by omega) ((o_b (σ.2 0) c9 au) (23 + 19 * c9 + 5)) ((congrFun mo_na_2 _).trans ((upd_ne (show 23 + 19 * c9 + 5 ≠ (23 + 19 * c9 + 4) by omega)).trans ((upd_ne (show 23 + 19 * c9 + 5 ≠ (23 + 19 * c9 + 3) by omega)).trans ((upd_ne (show 23 + 19 * c9 + 5 ≠ (23 + 19 * c9 + 2) by omega)).trans (upd_ne (show 23 + 19 * c9 + 5 ≠ (23 + 19 * c9 + 1) by omega))))))) (cwV 3 hts (lw_V q2748 q2750 qs61 q106 q2751) rfl rfl rfl (by decide +kernel) ⟨Nat.le_of_ble_eq_true rfl, Nat.le_of_ble_eq_true rfl⟩) (hv_preV hw pk_X5 hM.1) rfl rfl hl.1 rfl (lv_room (Nat.le_of_ble_eq_true rfl)) dX5_pays_147 ⟨Nat.le_of_ble_eq_true rfl, Nat.le_of_ble_eq_true rfl⟩) hw hF (fun hh H locs hM hF hw => ?_)
      rw [mo_na_sa] at hM
      refine lv_aload_n hx hb dX5_pays_150 rfl (lv_at hl 5 rfl) ?_
      refine lv_iload_n hx hb dX5_pays_151 rfl (lv_at hl 6 rfl) ?_
      refine lv_iconst (v := 0) hx hb dX5_pays_152 (by decide) ?_
      refine lv_iconst (v := 0) hx hb dX5_pays_153 (by decide) ?_
      refine mo_callv (va_runV (As := [.int (nI c9), .int 0, .int 0]) (rest := []) ⟨hx, hb, hml, hown, hts⟩ (met_X5_becomes l G hM c9 0 0 (show 23 + 19 * c9 + 0 < 137 by omega)) (cwV 3 hts (lw_V q2744 q2746 qs60 q106 q2747) rfl rfl rfl (by decide +kernel) ⟨Nat.le_of_ble_eq_true rfl, Nat.le_of_ble_eq_true rfl⟩) (hv_preV hw pk_X5 hM.1) rfl rfl hl.1 rfl (lv_room (Nat.le_of_ble_eq_true rfl)) dX5_pays_154 ⟨Nat.le_of_ble_eq_true rfl, Nat.le_of_ble_eq_true rfl⟩) hw hF (fun hh H locs hM hF hw => ?_)
      rw [mo_na_sa] at hM
      refine lv_iconst (v := 0) hx hb dX5_pays_157 (by decide) ?_
      refine lv_istore (lv' := [(8, .int 0), (7, .int (o_paid (σ.2 0) c9 au)), (6, .int (o_due (σ.2 0) c9 au)), (5, .int ((o_ut (σ.2 0) c9 au).2)), (4, .int (o_fine (σ.2 0) c9 au)), (3, .int (o_d (σ.2 0) c9 au)), (0, .ref o), (1, .int (nI c9)), (2, .int (b01 au))]) hx hb dX5_pays_158 hl (by decide) rfl (fun ls hl => ?_)
      have hM : isMod G hh o ma (mo_na σ (o_zero (upd (upd (upd (upd (upd (upd (o_b (σ.2 0) c9 au) (23 + 19 * c9 + 1) ((o_b (σ.2 0) c9 au) (23 + 19 * c9 + 1) + (-(o_paid (σ.2 0) c9 au)))) (23 + 19 * c9 + 2) ((o_due (σ.2 0) c9 au) - (o_paid (σ.2 0) c9 au))) (23 + 19 * c9 + 3) ((o_b (σ.2 0) c9 au) (23 + 19 * c9 + 3) + ((o_ut (σ.2 0) c9 au).2))) (23 + 19 * c9 + 4) ((o_b (σ.2 0) c9 au) (23 + 19 * c9 + 4) + (o_fine (σ.2 0) c9 au))) (23 + 19 * c9 + 5) ((o_b (σ.2 0) c9 au) (23 + 19 * c9 + 5) + (b01 (au)))) (23 + 19 * c9 + 0) 0) c9 13 0)) := hM
      have LP160 : ∀ (n160 : Nat) (k : Nat) (hh : hp) (H : Heap) (locs : List Loc) (ls : Array Slot), 6 - k < n160 → k ≤ 6 → isMod G hh o ma (mo_na σ (o_zero (upd (upd (upd (upd (upd (upd (o_b (σ.2 0) c9 au) (23 + 19 * c9 + 1) ((o_b (σ.2 0) c9 au) (23 + 19 * c9 + 1) + (-(o_paid (σ.2 0) c9 au)))) (23 + 19 * c9 + 2) ((o_due (σ.2 0) c9 au) - (o_paid (σ.2 0) c9 au))) (23 + 19 * c9 + 3) ((o_b (σ.2 0) c9 au) (23 + 19 * c9 + 3) + ((o_ut (σ.2 0) c9 au).2))) (23 + 19 * c9 + 4) ((o_b (σ.2 0) c9 au) (23 + 19 * c9 + 4) + (o_fine (σ.2 0) c9 au))) (23 + 19 * c9 + 5) ((o_b (σ.2 0) c9 au) (23 + 19 * c9 + 5) + (b01 (au)))) (23 + 19 * c9 + 0) 0) c9 13 k)) → mo_fr o ma h hh → hv_W G s hh H locs → lv_has ls 9 [(8, .int (nI k)), (7, .int (o_paid (σ.2 0) c9 au)), (6, .int (o_due (σ.2 0) c9 au)), (5, .int ((o_ut (σ.2 0) c9 au).2)), (4, .int (o_fine (σ.2 0) c9 au)), (3, .int (o_d (σ.2 0) c9 au)), (0, .ref o), (1, .int (nI c9)), (2, .int (b01 au))] → W p l e ({ frames := 4, cells := 0, slots := 0, locals := 91 } : Room) s m a below meth c H locs 0 0 Q (F0 m 160 ls []) := by
        intro n160
        induction n160 with
        | zero => exact fun k hh H locs ls hmu160 => absurd hmu160 (Nat.not_lt_zero _)
        | succ n160 ih160 =>
          intro k hh H locs ls hmu160 hkk hM hF hw hl
          refine lv_iload hx hb dX5_pays_160 (lv_at hl 0 rfl) ?_
          refine lv_bipush (v := 6) hx hb dX5_pays_162 (by decide) ?_
          refine lv_icmp_ge (tgt := 184) hx hb dX5_pays_164 (by decide) (fun c164 => ?_) (fun c164 => ?_)
          · skip
            have hxk : 6 ≤ k := cmp_le c164 rfl rfl (by omega) (by omega)
            obtain rfl : k = 6 := by omega
            refine lv_iload hx hb dX5_pays_184 (lv_at hl 1 rfl) ?_
            exact hret rfl hw ⟨rfl, hM, hF⟩ (Nat.le_of_ble_eq_true rfl) (Nat.le_of_ble_eq_true rfl) dX5_pays_186
          · skip
            have hxk : k < 6 := cmp_nle c164 rfl rfl (by omega) (by omega)
            refine lv_aload_n hx hb dX5_pays_167 rfl (lv_at hl 6 rfl) ?_
            refine lv_iload_n hx hb dX5_pays_168 rfl (lv_at hl 7 rfl) ?_
            refine lv_bipush (v := 13) hx hb dX5_pays_169 (by decide) ?_
            refine lv_iload hx hb dX5_pays_171 (lv_at hl 0 rfl) ?_
            refine lv_iadd hx hb dX5_pays_173 ?_
            refine lv_tope (y := nI (13 + k)) (by simp only [nI, Int32.ofNat_add, Int32.ofNat_mul] <;> rfl) ?_
            refine lv_iconst (v := 0) hx hb dX5_pays_174 (by decide) ?_
            refine mo_callv (va_runV (As := [.int (nI c9), .int (nI (13 + k)), .int 0]) (rest := []) ⟨hx, hb, hml, hown, hts⟩ (met_X5_becomes l G hM c9 (13 + k) 0 (show 23 + 19 * c9 + (13 + k) < 137 by omega)) (cwV 3 hts (lw_V q2744 q2746 qs60 q106 q2747) rfl rfl rfl (by decide +kernel) ⟨Nat.le_of_ble_eq_true rfl, Nat.le_of_ble_eq_true rfl⟩) (hv_preV hw pk_X5 hM.1) rfl rfl hl.1 rfl (lv_room (Nat.le_of_ble_eq_true rfl)) dX5_pays_175 ⟨Nat.le_of_ble_eq_true rfl, Nat.le_of_ble_eq_true rfl⟩) hw hF (fun hh H locs hM hF hw => ?_)
            rw [mo_na_sa] at hM
            refine lv_iinc (v := nI (k + 1)) (lv' := [(8, .int (nI (k + 1))), (7, .int (o_paid (σ.2 0) c9 au)), (6, .int (o_due (σ.2 0) c9 au)), (5, .int ((o_ut (σ.2 0) c9 au).2)), (4, .int (o_fine (σ.2 0) c9 au)), (3, .int (o_d (σ.2 0) c9 au)), (0, .ref o), (1, .int (nI c9)), (2, .int (b01 au))]) hx hb dX5_pays_178 hl (k := 0) rfl (by simp only [nI, Int32.ofNat_add] <;> rfl) (by decide) rfl (fun ls hl => ?_)
            refine lv_goto (tgt := 160) hx hb dX5_pays_181 (by decide) ?_
            exact ih160 (k + 1) _ _ _ _ (by omega) (by omega) hM hF hw (lv_sub hl [0, 1, 2, 3, 4, 5, 6, 7, 8] rfl)
      exact LP160 _ 0 _ _ _ _ (Nat.lt_succ_self _) (by omega) hM hF hw (lv_sub hl [0, 1, 2, 3, 4, 5, 6, 7, 8] rfl)
    · skip
      have eu : (o_ut (σ.2 0) c9 au) = o_use (σ.2 0) c9 ((o_d (σ.2 0) c9 au) / 100) (o_held (σ.2 0) c9) := if_pos (Int32.not_le.mp c36)
      have ef : (o_fresh (σ.2 0) c9 au) = 0 := if_pos (Int32.not_le.mp c36)
      refine lv_aload_n hx hb dX5_pays_39 rfl (lv_at hl 2 rfl) ?_
      refine lv_iload_n hx hb dX5_pays_40 rfl (lv_at hl 3 rfl) ?_
      refine lv_iload_n hx hb dX5_pays_41 rfl (lv_at hl 1 rfl) ?_
      refine lv_bipush (v := 100) hx hb dX5_pays_42 (by decide) ?_
      refine lv_idiv hx hb dX5_pays_44 (by decide) ?_
      refine mo_calli (va_runV (As := [.int (nI c9), .int ((o_d (σ.2 0) c9 au) / 100)]) (rest := []) ⟨hx, hb, hml, hown, hts⟩ (met_X5_uses l G hM c9 ((o_d (σ.2 0) c9 au) / 100) (hhd) (show c9 < 6 by omega)) (cwV 2 hts (lw_V q2813 q2815 qs73 q106 q2816) rfl rfl rfl (by decide +kernel) ⟨Nat.le_of_ble_eq_true rfl, Nat.le_of_ble_eq_true rfl⟩) (hv_preV hw pk_X5 hM.1) rfl rfl hl.1 rfl (lv_room (Nat.le_of_ble_eq_true rfl)) dX5_pays_45 ⟨Nat.le_of_ble_eq_true rfl, Nat.le_of_ble_eq_true rfl⟩) hw hF (fun hh H locs hM hF hw => ?_)
      refine lv_goto (tgt := 52) hx hb dX5_pays_48 (by decide) ?_
      have hM : isMod G hh o ma (mo_na σ (o_ut (σ.2 0) c9 au).1) := by rw [eu]; exact hM
      refine lv_tope (y := (o_ut (σ.2 0) c9 au).2) (by rw [eu]) ?_
      have hU6 : (o_ut (σ.2 0) c9 au).1 (23 + 19 * c9 + 6) = nI (o_held (o_ut (σ.2 0) c9 au).1 c9) ∧ o_held (o_ut (σ.2 0) c9 au).1 c9 ≤ 3 := by have e6 : (o_ut (σ.2 0) c9 au).1 (23 + 19 * c9 + 6) = σ.2 0 (23 + 19 * c9 + 6) := o_ut_ne (fun i => by unfold o_at; omega); unfold o_held; rw [e6]; exact hhd
      refine lv_istore (lv' := [(5, .int ((o_ut (σ.2 0) c9 au).2)), (4, .int (o_fine (σ.2 0) c9 au)), (3, .int (o_d (σ.2 0) c9 au)), (0, .ref o), (1, .int (nI c9)), (2, .int (b01 au))]) hx hb dX5_pays_52 hl (by decide) rfl (fun ls hl => ?_)
      refine lv_aload_n hx hb dX5_pays_54 rfl (lv_at hl 3 rfl) ?_
      refine lv_iload_n hx hb dX5_pays_55 rfl (lv_at hl 4 rfl) ?_
      refine lv_iload_n hx hb dX5_pays_56 rfl (lv_at hl 2 rfl) ?_
      refine lv_if_le (tgt := 64) hx hb dX5_pays_57 (by decide) (fun c57 => absurd c57 (c36)) (fun c57 => ?_)
      refine lv_iconst (v := 0) hx hb dX5_pays_60 (by decide) ?_
      refine lv_goto (tgt := 69) hx hb dX5_pays_61 (by decide) ?_
      refine lv_tope (y := (o_fresh (σ.2 0) c9 au)) (ef.symm) ?_
      refine mo_callv (va_runV (As := [.int (nI c9), .int (o_fresh (σ.2 0) c9 au)]) (rest := []) ⟨hx, hb, hml, hown, hts⟩ (met_X5_ages l G hM c9 (o_fresh (σ.2 0) c9 au) (hU6) (show c9 < 6 by omega)) (cwV 2 hts (lw_V q2817 q2819 qs74 q106 q2820) rfl rfl rfl (by decide +kernel) ⟨Nat.le_of_ble_eq_true rfl, Nat.le_of_ble_eq_true rfl⟩) (hv_preV hw pk_X5 hM.1) rfl rfl hl.1 rfl (lv_room (Nat.le_of_ble_eq_true rfl)) dX5_pays_69 ⟨Nat.le_of_ble_eq_true rfl, Nat.le_of_ble_eq_true rfl⟩) hw hF (fun hh H locs hM hF hw => ?_)
      have hM : isMod G hh o ma (mo_na σ (o_b (σ.2 0) c9 au)) := by have h9 := hM; rw [mo_na_na] at h9; exact h9
      refine lv_aload_n hx hb dX5_pays_72 rfl (lv_at hl 3 rfl) ?_
      refine lv_iload_n hx hb dX5_pays_73 rfl (lv_at hl 4 rfl) ?_
      refine lv_iconst (v := 2) hx hb dX5_pays_74 (by decide) ?_
      refine hv_callir (va_runV (As := [.int (nI c9), .int 2]) (rest := []) ⟨hx, hb, hml, hown, hts⟩ (met_X5_of l G hM c9 2 (show 23 + 19 * c9 + 2 < 137 by omega)) (cwV 2 hts (lw_V q2740 q2742 qs59 q106 q2743) rfl rfl rfl (by decide +kernel) ⟨Nat.le_of_ble_eq_true rfl, Nat.le_of_ble_eq_true rfl⟩) (hv_preV hw pk_X5 hM.1) rfl rfl hl.1 rfl (lv_room (Nat.le_of_ble_eq_true rfl)) dX5_pays_75 ⟨Nat.le_of_ble_eq_true rfl, Nat.le_of_ble_eq_true rfl⟩) hw (fun H locs hw => ?_)
      refine lv_tope (y := (o_b (σ.2 0) c9 au) (23 + 19 * c9 + 2)) ((congrFun mo_na_2 _)) ?_
      refine lv_iload hx hb dX5_pays_78 (lv_at hl 0 rfl) ?_
      refine lv_iadd hx hb dX5_pays_80 ?_
      refine lv_iload hx hb dX5_pays_81 (lv_at hl 1 rfl) ?_
      refine lv_iadd hx hb dX5_pays_83 ?_
      refine lv_tope (y := o_due (σ.2 0) c9 au) rfl ?_
      refine lv_istore (lv' := [(6, .int (o_due (σ.2 0) c9 au)), (5, .int ((o_ut (σ.2 0) c9 au).2)), (4, .int (o_fine (σ.2 0) c9 au)), (3, .int (o_d (σ.2 0) c9 au)), (0, .ref o), (1, .int (nI c9)), (2, .int (b01 au))]) hx hb dX5_pays_84 hl (by decide) rfl (fun ls hl => ?_)
      refine lv_iload hx hb dX5_pays_86 (lv_at hl 0 rfl) ?_
      refine lv_aload_n hx hb dX5_pays_88 rfl (lv_at hl 4 rfl) ?_
      refine lv_iload_n hx hb dX5_pays_89 rfl (lv_at hl 5 rfl) ?_
      refine lv_iconst (v := 1) hx hb dX5_pays_90 (by decide) ?_
      refine hv_callir (va_runV (As := [.int (nI c9), .int 1]) (rest := [.int (o_due (σ.2 0) c9 au)]) ⟨hx, hb, hml, hown, hts⟩ (met_X5_of l G hM c9 1 (show 23 + 19 * c9 + 1 < 137 by omega)) (cwV 2 hts (lw_V q2740 q2742 qs59 q106 q2743) rfl rfl rfl (by decide +kernel) ⟨Nat.le_of_ble_eq_true rfl, Nat.le_of_ble_eq_true rfl⟩) (hv_preV hw pk_X5 hM.1) rfl rfl hl.1 rfl (lv_room (Nat.le_of_ble_eq_true rfl)) dX5_pays_91 ⟨Nat.le_of_ble_eq_true rfl, Nat.le_of_ble_eq_true rfl⟩) hw (fun H locs hw => ?_)
      refine lv_tope (y := (o_b (σ.2 0) c9 au) (23 + 19 * c9 + 1)) ((congrFun mo_na_2 _)) ?_
      refine va_mmin hx hb (hml.trans hl.1.symm) hown (hts _ q2772) (hts _ q554) (hts _ q113) (hts _ q555) (Nat.le_of_ble_eq_true rfl) (Nat.le_of_ble_eq_true rfl) (Nat.le_of_ble_eq_true rfl) (Nat.le_of_ble_eq_true rfl) dX5_pays_94 ?_
      refine lv_tope (y := mn (o_due (σ.2 0) c9 au) ((o_b (σ.2 0) c9 au) (23 + 19 * c9 + 1))) rfl ?_
      refine lv_tope (y := o_paid (σ.2 0) c9 au) rfl ?_
      refine lv_istore (lv' := [(7, .int (o_paid (σ.2 0) c9 au)), (6, .int (o_due (σ.2 0) c9 au)), (5, .int ((o_ut (σ.2 0) c9 au).2)), (4, .int (o_fine (σ.2 0) c9 au)), (3, .int (o_d (σ.2 0) c9 au)), (0, .ref o), (1, .int (nI c9)), (2, .int (b01 au))]) hx hb dX5_pays_97 hl (by decide) rfl (fun ls hl => ?_)
      refine lv_aload_n hx hb dX5_pays_99 rfl (lv_at hl 5 rfl) ?_
      refine lv_iload_n hx hb dX5_pays_100 rfl (lv_at hl 6 rfl) ?_
      refine lv_iconst (v := 1) hx hb dX5_pays_101 (by decide) ?_
      refine lv_iload hx hb dX5_pays_102 (lv_at hl 0 rfl) ?_
      refine lv_ineg hx hb dX5_pays_104 ?_
      refine mo_callv (va_runV (As := [.int (nI c9), .int 1, .int (-(o_paid (σ.2 0) c9 au))]) (rest := []) ⟨hx, hb, hml, hown, hts⟩ (met_X5_gets l G hM c9 1 (-(o_paid (σ.2 0) c9 au)) (show 23 + 19 * c9 + 1 < 137 by omega) ((o_b (σ.2 0) c9 au) (23 + 19 * c9 + 1)) (congrFun mo_na_2 _)) (cwV 3 hts (lw_V q2748 q2750 qs61 q106 q2751) rfl rfl rfl (by decide +kernel) ⟨Nat.le_of_ble_eq_true rfl, Nat.le_of_ble_eq_true rfl⟩) (hv_preV hw pk_X5 hM.1) rfl rfl hl.1 rfl (lv_room (Nat.le_of_ble_eq_true rfl)) dX5_pays_105 ⟨Nat.le_of_ble_eq_true rfl, Nat.le_of_ble_eq_true rfl⟩) hw hF (fun hh H locs hM hF hw => ?_)
      rw [mo_na_sa] at hM
      refine lv_aload_n hx hb dX5_pays_108 rfl (lv_at hl 5 rfl) ?_
      refine lv_iload_n hx hb dX5_pays_109 rfl (lv_at hl 6 rfl) ?_
      refine lv_iconst (v := 2) hx hb dX5_pays_110 (by decide) ?_
      refine lv_iload hx hb dX5_pays_111 (lv_at hl 1 rfl) ?_
      refine lv_iload hx hb dX5_pays_113 (lv_at hl 0 rfl) ?_
      refine lv_isub hx hb dX5_pays_115 ?_
      refine mo_callv (va_runV (As := [.int (nI c9), .int 2, .int ((o_due (σ.2 0) c9 au) - (o_paid (σ.2 0) c9 au))]) (rest := []) ⟨hx, hb, hml, hown, hts⟩ (met_X5_becomes l G hM c9 2 ((o_due (σ.2 0) c9 au) - (o_paid (σ.2 0) c9 au)) (show 23 + 19 * c9 + 2 < 137 by omega)) (cwV 3 hts (lw_V q2744 q2746 qs60 q106 q2747) rfl rfl rfl (by decide +kernel) ⟨Nat.le_of_ble_eq_true rfl, Nat.le_of_ble_eq_true rfl⟩) (hv_preV hw pk_X5 hM.1) rfl rfl hl.1 rfl (lv_room (Nat.le_of_ble_eq_true rfl)) dX5_pays_116 ⟨Nat.le_of_ble_eq_true rfl, Nat.le_of_ble_eq_true rfl⟩) hw hF (fun hh H locs hM hF hw => ?_)
      rw [mo_na_sa] at hM
      refine lv_aload_n hx hb dX5_pays_119 rfl (lv_at hl 5 rfl) ?_
      refine lv_iload_n hx hb dX5_pays_120 rfl (lv_at hl 6 rfl) ?_
      refine lv_iconst (v := 3) hx hb dX5_pays_121 (by decide) ?_
      refine lv_iload hx hb dX5_pays_122 (lv_at hl 2 rfl) ?_
      refine mo_callv (va_runV (As := [.int (nI c9), .int 3, .int ((o_ut (σ.2 0) c9 au).2)]) (rest := []) ⟨hx, hb, hml, hown, hts⟩ (met_X5_gets l G hM c9 3 ((o_ut (σ.2 0) c9 au).2) (show 23 + 19 * c9 + 3 < 137 by omega) ((o_b (σ.2 0) c9 au) (23 + 19 * c9 + 3)) ((congrFun mo_na_2 _).trans ((upd_ne (show 23 + 19 * c9 + 3 ≠ (23 + 19 * c9 + 2) by omega)).trans (upd_ne (show 23 + 19 * c9 + 3 ≠ (23 + 19 * c9 + 1) by omega))))) (cwV 3 hts (lw_V q2748 q2750 qs61 q106 q2751) rfl rfl rfl (by decide +kernel) ⟨Nat.le_of_ble_eq_true rfl, Nat.le_of_ble_eq_true rfl⟩) (hv_preV hw pk_X5 hM.1) rfl rfl hl.1 rfl (lv_room (Nat.le_of_ble_eq_true rfl)) dX5_pays_124 ⟨Nat.le_of_ble_eq_true rfl, Nat.le_of_ble_eq_true rfl⟩) hw hF (fun hh H locs hM hF hw => ?_)
      rw [mo_na_sa] at hM
      refine lv_aload_n hx hb dX5_pays_127 rfl (lv_at hl 5 rfl) ?_
      refine lv_iload_n hx hb dX5_pays_128 rfl (lv_at hl 6 rfl) ?_
      refine lv_iconst (v := 4) hx hb dX5_pays_129 (by decide) ?_
      refine lv_iload hx hb dX5_pays_130 (lv_at hl 3 rfl) ?_
      refine mo_callv (va_runV (As := [.int (nI c9), .int 4, .int (o_fine (σ.2 0) c9 au)]) (rest := []) ⟨hx, hb, hml, hown, hts⟩ (met_X5_gets l G hM c9 4 (o_fine (σ.2 0) c9 au) (show 23 + 19 * c9 + 4 < 137 by omega) ((o_b (σ.2 0) c9 au) (23 + 19 * c9 + 4)) ((congrFun mo_na_2 _).trans ((upd_ne (show 23 + 19 * c9 + 4 ≠ (23 + 19 * c9 + 3) by omega)).trans ((upd_ne (show 23 + 19 * c9 + 4 ≠ (23 + 19 * c9 + 2) by omega)).trans (upd_ne (show 23 + 19 * c9 + 4 ≠ (23 + 19 * c9 + 1) by omega)))))) (cwV 3 hts (lw_V q2748 q2750 qs61 q106 q2751) rfl rfl rfl (by decide +kernel) ⟨Nat.le_of_ble_eq_true rfl, Nat.le_of_ble_eq_true rfl⟩) (hv_preV hw pk_X5 hM.1) rfl rfl hl.1 rfl (lv_room (Nat.le_of_ble_eq_true rfl)) dX5_pays_132 ⟨Nat.le_of_ble_eq_true rfl, Nat.le_of_ble_eq_true rfl⟩) hw hF (fun hh H locs hM hF hw => ?_)
      rw [mo_na_sa] at hM
      refine lv_aload_n hx hb dX5_pays_135 rfl (lv_at hl 5 rfl) ?_
      refine lv_iload_n hx hb dX5_pays_136 rfl (lv_at hl 6 rfl) ?_
      refine lv_iconst (v := 5) hx hb dX5_pays_137 (by decide) ?_
      refine lv_iload_n hx hb dX5_pays_138 rfl (lv_at hl 7 rfl) ?_
      refine lv_mat0 (P := (b01 au) = 0) (j := 147) (fun k1 k2 => lv_if_eq (tgt := 146) hx hb dX5_pays_139 (by decide) (fun c => lv_iconst (v := 0) hx hb dX5_pays_146 (by decide) (k1 c)) (fun c => lv_iconst (v := 1) hx hb dX5_pays_142 (by decide) (lv_goto (tgt := 147) hx hb dX5_pays_143 (by decide) (k2 c)))) ?_
      refine lv_tope (y := b01 (au)) (b01_c b01_n) ?_
      refine mo_callv (va_runV (As := [.int (nI c9), .int 5, .int (b01 (au))]) (rest := []) ⟨hx, hb, hml, hown, hts⟩ (met_X5_gets l G hM c9 5 (b01 (au)) (show 23 + 19 * c9 + 5 < 137 by omega) ((o_b (σ.2 0) c9 au) (23 + 19 * c9 + 5)) ((congrFun mo_na_2 _).trans ((upd_ne (show 23 + 19 * c9 + 5 ≠ (23 + 19 * c9 + 4) by omega)).trans ((upd_ne (show 23 + 19 * c9 + 5 ≠ (23 + 19 * c9 + 3) by omega)).trans ((upd_ne (show 23 + 19 * c9 + 5 ≠ (23 + 19 * c9 + 2) by omega)).trans (upd_ne (show 23 + 19 * c9 + 5 ≠ (23 + 19 * c9 + 1) by omega))))))) (cwV 3 hts (lw_V q2748 q2750 qs61 q106 q2751) rfl rfl rfl (by decide +kernel) ⟨Nat.le_of_ble_eq_true rfl, Nat.le_of_ble_eq_true rfl⟩) (hv_preV hw pk_X5 hM.1) rfl rfl hl.1 rfl (lv_room (Nat.le_of_ble_eq_true rfl)) dX5_pays_147 ⟨Nat.le_of_ble_eq_true rfl, Nat.le_of_ble_eq_true rfl⟩) hw hF (fun hh H locs hM hF hw => ?_)
      rw [mo_na_sa] at hM
      refine lv_aload_n hx hb dX5_pays_150 rfl (lv_at hl 5 rfl) ?_
      refine lv_iload_n hx hb dX5_pays_151 rfl (lv_at hl 6 rfl) ?_
      refine lv_iconst (v := 0) hx hb dX5_pays_152 (by decide) ?_
      refine lv_iconst (v := 0) hx hb dX5_pays_153 (by decide) ?_
      refine mo_callv (va_runV (As := [.int (nI c9), .int 0, .int 0]) (rest := []) ⟨hx, hb, hml, hown, hts⟩ (met_X5_becomes l G hM c9 0 0 (show 23 + 19 * c9 + 0 < 137 by omega)) (cwV 3 hts (lw_V q2744 q2746 qs60 q106 q2747) rfl rfl rfl (by decide +kernel) ⟨Nat.le_of_ble_eq_true rfl, Nat.le_of_ble_eq_true rfl⟩) (hv_preV hw pk_X5 hM.1) rfl rfl hl.1 rfl (lv_room (Nat.le_of_ble_eq_true rfl)) dX5_pays_154 ⟨Nat.le_of_ble_eq_true rfl, Nat.le_of_ble_eq_true rfl⟩) hw hF (fun hh H locs hM hF hw => ?_)
      rw [mo_na_sa] at hM
      refine lv_iconst (v := 0) hx hb dX5_pays_157 (by decide) ?_
      refine lv_istore (lv' := [(8, .int 0), (7, .int (o_paid (σ.2 0) c9 au)), (6, .int (o_due (σ.2 0) c9 au)), (5, .int ((o_ut (σ.2 0) c9 au).2)), (4, .int (o_fine (σ.2 0) c9 au)), (3, .int (o_d (σ.2 0) c9 au)), (0, .ref o), (1, .int (nI c9)), (2, .int (b01 au))]) hx hb dX5_pays_158 hl (by decide) rfl (fun ls hl => ?_)
      have hM : isMod G hh o ma (mo_na σ (o_zero (upd (upd (upd (upd (upd (upd (o_b (σ.2 0) c9 au) (23 + 19 * c9 + 1) ((o_b (σ.2 0) c9 au) (23 + 19 * c9 + 1) + (-(o_paid (σ.2 0) c9 au)))) (23 + 19 * c9 + 2) ((o_due (σ.2 0) c9 au) - (o_paid (σ.2 0) c9 au))) (23 + 19 * c9 + 3) ((o_b (σ.2 0) c9 au) (23 + 19 * c9 + 3) + ((o_ut (σ.2 0) c9 au).2))) (23 + 19 * c9 + 4) ((o_b (σ.2 0) c9 au) (23 + 19 * c9 + 4) + (o_fine (σ.2 0) c9 au))) (23 + 19 * c9 + 5) ((o_b (σ.2 0) c9 au) (23 + 19 * c9 + 5) + (b01 (au)))) (23 + 19 * c9 + 0) 0) c9 13 0)) := hM
      have LP160 : ∀ (n160 : Nat) (k : Nat) (hh : hp) (H : Heap) (locs : List Loc) (ls : Array Slot), 6 - k < n160 → k ≤ 6 → isMod G hh o ma (mo_na σ (o_zero (upd (upd (upd (upd (upd (upd (o_b (σ.2 0) c9 au) (23 + 19 * c9 + 1) ((o_b (σ.2 0) c9 au) (23 + 19 * c9 + 1) + (-(o_paid (σ.2 0) c9 au)))) (23 + 19 * c9 + 2) ((o_due (σ.2 0) c9 au) - (o_paid (σ.2 0) c9 au))) (23 + 19 * c9 + 3) ((o_b (σ.2 0) c9 au) (23 + 19 * c9 + 3) + ((o_ut (σ.2 0) c9 au).2))) (23 + 19 * c9 + 4) ((o_b (σ.2 0) c9 au) (23 + 19 * c9 + 4) + (o_fine (σ.2 0) c9 au))) (23 + 19 * c9 + 5) ((o_b (σ.2 0) c9 au) (23 + 19 * c9 + 5) + (b01 (au)))) (23 + 19 * c9 + 0) 0) c9 13 k)) → mo_fr o ma h hh → hv_W G s hh H locs → lv_has ls 9 [(8, .int (nI k)), (7, .int (o_paid (σ.2 0) c9 au)), (6, .int (o_due (σ.2 0) c9 au)), (5, .int ((o_ut (σ.2 0) c9 au).2)), (4, .int (o_fine (σ.2 0) c9 au)), (3, .int (o_d (σ.2 0) c9 au)), (0, .ref o), (1, .int (nI c9)), (2, .int (b01 au))] → W p l e ({ frames := 4, cells := 0, slots := 0, locals := 91 } : Room) s m a below meth c H locs 0 0 Q (F0 m 160 ls []) := by
        intro n160
        induction n160 with
        | zero => exact fun k hh H locs ls hmu160 => absurd hmu160 (Nat.not_lt_zero _)
        | succ n160 ih160 =>
          intro k hh H locs ls hmu160 hkk hM hF hw hl
          refine lv_iload hx hb dX5_pays_160 (lv_at hl 0 rfl) ?_
          refine lv_bipush (v := 6) hx hb dX5_pays_162 (by decide) ?_
          refine lv_icmp_ge (tgt := 184) hx hb dX5_pays_164 (by decide) (fun c164 => ?_) (fun c164 => ?_)
          · skip
            have hxk : 6 ≤ k := cmp_le c164 rfl rfl (by omega) (by omega)
            obtain rfl : k = 6 := by omega
            refine lv_iload hx hb dX5_pays_184 (lv_at hl 1 rfl) ?_
            exact hret rfl hw ⟨rfl, hM, hF⟩ (Nat.le_of_ble_eq_true rfl) (Nat.le_of_ble_eq_true rfl) dX5_pays_186
          · skip
            have hxk : k < 6 := cmp_nle c164 rfl rfl (by omega) (by omega)
            refine lv_aload_n hx hb dX5_pays_167 rfl (lv_at hl 6 rfl) ?_
            refine lv_iload_n hx hb dX5_pays_168 rfl (lv_at hl 7 rfl) ?_
            refine lv_bipush (v := 13) hx hb dX5_pays_169 (by decide) ?_
            refine lv_iload hx hb dX5_pays_171 (lv_at hl 0 rfl) ?_
            refine lv_iadd hx hb dX5_pays_173 ?_
            refine lv_tope (y := nI (13 + k)) (by simp only [nI, Int32.ofNat_add, Int32.ofNat_mul] <;> rfl) ?_
            refine lv_iconst (v := 0) hx hb dX5_pays_174 (by decide) ?_
            refine mo_callv (va_runV (As := [.int (nI c9), .int (nI (13 + k)), .int 0]) (rest := []) ⟨hx, hb, hml, hown, hts⟩ (met_X5_becomes l G hM c9 (13 + k) 0 (show 23 + 19 * c9 + (13 + k) < 137 by omega)) (cwV 3 hts (lw_V q2744 q2746 qs60 q106 q2747) rfl rfl rfl (by decide +kernel) ⟨Nat.le_of_ble_eq_true rfl, Nat.le_of_ble_eq_true rfl⟩) (hv_preV hw pk_X5 hM.1) rfl rfl hl.1 rfl (lv_room (Nat.le_of_ble_eq_true rfl)) dX5_pays_175 ⟨Nat.le_of_ble_eq_true rfl, Nat.le_of_ble_eq_true rfl⟩) hw hF (fun hh H locs hM hF hw => ?_)
            rw [mo_na_sa] at hM
            refine lv_iinc (v := nI (k + 1)) (lv' := [(8, .int (nI (k + 1))), (7, .int (o_paid (σ.2 0) c9 au)), (6, .int (o_due (σ.2 0) c9 au)), (5, .int ((o_ut (σ.2 0) c9 au).2)), (4, .int (o_fine (σ.2 0) c9 au)), (3, .int (o_d (σ.2 0) c9 au)), (0, .ref o), (1, .int (nI c9)), (2, .int (b01 au))]) hx hb dX5_pays_178 hl (k := 0) rfl (by simp only [nI, Int32.ofNat_add] <;> rfl) (by decide) rfl (fun ls hl => ?_)
            refine lv_goto (tgt := 160) hx hb dX5_pays_181 (by decide) ?_
            exact ih160 (k + 1) _ _ _ _ (by omega) (by omega) hM hF hw (lv_sub hl [0, 1, 2, 3, 4, 5, 6, 7, 8] rfl)
      exact LP160 _ 0 _ _ _ _ (Nat.lt_succ_self _) (by omega) hM hF hw (lv_sub hl [0, 1, 2, 3, 4, 5, 6, 7, 8] rfl)
set_option maxHeartbeats 2000000 in
theorem met_X5_endsYear (l : Launch) (G : hG) {h : hp} {o : Nat} {ma : Nat → Nat} {σ : MS} (hM : isMod G h o ma σ)  (hok : okI (σ.2 0)) (h16 : σ.1 16 = 0) (hoky : ∀ k, k ≤ o_people (σ.2 0) → okI (o_yr (σ.2 0) k).1 ∧ o_people (o_yr (σ.2 0) k).1 = o_people (σ.2 0)) : hv_Mi l G yX5_endsYear (ws_ yX5_endsYear cX5_endsYear 4 (Option.some Jvm.ClassFile.FieldType.int)) ({ frames := 5, cells := 0, slots := 0, locals := 119 } : Room) [.ref o] h (fun r hh => ∃ σ2, (m_inn σ (i_year (σ.2 0)) σ2 r) ∧ isMod G hh o ma σ2 ∧ mo_fr o ma h hh) := by
  refine hv_bi .int (Or.inl rfl) (own := RX5) (by decide +kernel) rfl (Nat.le_of_ble_eq_true rfl) (fun p e s m a below meth c ls Q hx hb hml hown hts hnm hret hw hl => ?_)
  have hl : lv_has ls 4 [(0, .ref o)] := hl
  have hF : mo_fr o ma h h := mo_fr.rf
  have hmx : o_many (σ.2 0) ≤ 5 := hok.2.2.1
  have hpx : o_people (σ.2 0) ≤ 6 := hok.2.2.2.2.1
  have hM : isMod G h o ma (mo_na σ (σ.2 0)) := by rw [mo_na_self]; exact hM
  have hn5 := hok.2.2.2.1
  refine lv_aload_n hx hb dX5_endsYear_0 rfl (lv_at hl 0 rfl) ?_
  refine mo_get hx hb hts hown hw hM 0 (by decide) q2554 rfl (v := .ref (ma 0)) rfl dX5_endsYear_1 ?_
  refine lv_bipush (v := 6) hx hb dX5_endsYear_4 (by decide) ?_
  refine lv_aload_n hx hb dX5_endsYear_6 rfl (lv_at hl 0 rfl) ?_
  refine mo_get hx hb hts hown hw hM 0 (by decide) q2554 rfl (v := .ref (ma 0)) rfl dX5_endsYear_7 ?_
  refine lv_bipush (v := 6) hx hb dX5_endsYear_10 (by decide) ?_
  refine mo_ald hx hb hw hM 0 rfl (j := 6) rfl (show 6 < 137 by omega) dX5_endsYear_12 ?_
  refine lv_tope (y := (σ.2 0) 6) ((congrFun mo_na_2 _)) ?_
  refine hv_callir (va_runS (As := [.int ((σ.2 0) 6)]) (rest := [.int 6, .ref (ma 0)]) ⟨hx, hb, hml, hown, hts⟩ (met_X5_nextLot l G ((σ.2 0) 6) ) (va_cwS 1 hts (lw_S q2789 q2790 q106 q2791) rfl rfl rfl (by decide +kernel) ⟨Nat.le_of_ble_eq_true rfl, Nat.le_of_ble_eq_true rfl⟩) (hv_preS hw) rfl rfl hl.1 rfl (lv_room (Nat.le_of_ble_eq_true rfl)) dX5_endsYear_13 ⟨Nat.le_of_ble_eq_true rfl, Nat.le_of_ble_eq_true rfl⟩) hw (fun H locs hw => ?_)
  refine mo_ast hx hb hw hM hF 0 rfl (j := 6) rfl (show 6 < 137 by omega) dX5_endsYear_16 (fun hh H locs hM hF hw => ?_)
  rw [mo_na_sa] at hM
  have hM : isMod G hh o ma (mo_na σ (o_y0 (σ.2 0))) := hM
  have ey5 : o_y0 (σ.2 0) 5 = σ.2 0 5 := upd_ne (by decide)
  have ey6 : o_y0 (σ.2 0) 6 = o_lot (σ.2 0 6) := upd_eq
  refine lv_aload_n hx hb dX5_endsYear_17 rfl (lv_at hl 0 rfl) ?_
  refine mo_get hx hb hts hown hw hM 0 (by decide) q2554 rfl (v := .ref (ma 0)) rfl dX5_endsYear_18 ?_
  refine lv_iconst (v := 5) hx hb dX5_endsYear_21 (by decide) ?_
  refine mo_ald hx hb hw hM 0 rfl (j := 5) rfl (show 5 < 137 by omega) dX5_endsYear_22 ?_
  refine lv_tope (y := σ.2 0 5) ((congrFun mo_na_2 _).trans ey5) ?_
  refine lv_if_ne (tgt := 30) hx hb dX5_endsYear_23 (by decide) (fun c23 => ?_) (fun c23 => ?_)
  · skip
    refine lv_aload_n hx hb dX5_endsYear_30 rfl (lv_at hl 0 rfl) ?_
    refine mo_get hx hb hts hown hw hM 0 (by decide) q2554 rfl (v := .ref (ma 0)) rfl dX5_endsYear_31 ?_
    refine lv_bipush (v := 6) hx hb dX5_endsYear_34 (by decide) ?_
    refine mo_ald hx hb hw hM 0 rfl (j := 6) rfl (show 6 < 137 by omega) dX5_endsYear_36 ?_
    refine lv_tope (y := o_lot (σ.2 0 6)) ((congrFun mo_na_2 _).trans ey6) ?_
    refine lv_aload_n hx hb dX5_endsYear_37 rfl (lv_at hl 0 rfl) ?_
    refine mo_get hx hb hts hown hw hM 0 (by decide) q2554 rfl (v := .ref (ma 0)) rfl dX5_endsYear_38 ?_
    refine lv_iconst (v := 5) hx hb dX5_endsYear_41 (by decide) ?_
    refine mo_ald hx hb hw hM 0 rfl (j := 5) rfl (show 5 < 137 by omega) dX5_endsYear_42 ?_
    refine lv_tope (y := σ.2 0 5) ((congrFun mo_na_2 _).trans ey5) ?_
    refine lv_irem hx hb dX5_endsYear_43 (c23) ?_
    refine lv_tope (y := o_aud (σ.2 0)) ((if_neg c23).symm) ?_
    refine lv_istore_n (lv' := [(1, .int (o_aud (σ.2 0))), (0, .ref o)]) hx hb dX5_endsYear_44 rfl hl (by decide) rfl (fun ls hl => ?_)
    refine lv_iconst (v := 0) hx hb dX5_endsYear_45 (by decide) ?_
    refine lv_istore_n (lv' := [(2, .int 0), (1, .int (o_aud (σ.2 0))), (0, .ref o)]) hx hb dX5_endsYear_46 rfl hl (by decide) rfl (fun ls hl => ?_)
    refine lv_iconst (v := 0) hx hb dX5_endsYear_47 (by decide) ?_
    refine lv_istore_n (lv' := [(3, .int 0), (2, .int 0), (1, .int (o_aud (σ.2 0))), (0, .ref o)]) hx hb dX5_endsYear_48 rfl hl (by decide) rfl (fun ls hl => ?_)
    have hM : isMod G hh o ma (mo_na σ (o_yr (σ.2 0) 0).1) := hM
    have LP49 : ∀ (n49 : Nat) (k : Nat) (hh : hp) (H : Heap) (locs : List Loc) (ls : Array Slot), o_people (σ.2 0) - k < n49 → k ≤ o_people (σ.2 0) → isMod G hh o ma (mo_na σ (o_yr (σ.2 0) k).1) → mo_fr o ma h hh → hv_W G s hh H locs → lv_has ls 4 [(3, .int (nI k)), (2, .int ((o_yr (σ.2 0) k).2)), (1, .int (o_aud (σ.2 0))), (0, .ref o)] → W p l e ({ frames := 5, cells := 0, slots := 0, locals := 119 } : Room) s m a below meth c H locs 0 0 Q (F0 m 49 ls []) := by
      intro n49
      induction n49 with
      | zero => exact fun k hh H locs ls hmu49 => absurd hmu49 (Nat.not_lt_zero _)
      | succ n49 ih49 =>
        intro k hh H locs ls hmu49 hkk hM hF hw hl
        have hbk : (o_yr (σ.2 0) k).1 5 = nI (o_people (σ.2 0)) := by have h9 := (hoky k hkk).1.2.2.2.1; rw [(hoky k hkk).2] at h9; exact h9
        refine lv_iload_n hx hb dX5_endsYear_49 rfl (lv_at hl 0 rfl) ?_
        refine lv_aload_n hx hb dX5_endsYear_50 rfl (lv_at hl 3 rfl) ?_
        refine mo_get hx hb hts hown hw hM 0 (by decide) q2554 rfl (v := .ref (ma 0)) rfl dX5_endsYear_51 ?_
        refine lv_iconst (v := 5) hx hb dX5_endsYear_54 (by decide) ?_
        refine mo_ald hx hb hw hM 0 rfl (j := 5) rfl (show 5 < 137 by omega) dX5_endsYear_55 ?_
        refine lv_tope (y := ((o_yr (σ.2 0) k).1) 5) ((congrFun mo_na_2 _)) ?_
        refine lv_icmp_ge (tgt := 83) hx hb dX5_endsYear_56 (by decide) (fun c56 => ?_) (fun c56 => ?_)
        · skip
          have hxk : o_people (σ.2 0) ≤ k := cmp_le c56 hbk rfl (by omega) (by omega)
          obtain rfl : k = o_people (σ.2 0) := by omega
          refine lv_aload_n hx hb dX5_endsYear_83 rfl (lv_at hl 3 rfl) ?_
          refine mo_get hx hb hts hown hw hM 0 (by decide) q2554 rfl (v := .ref (ma 0)) rfl dX5_endsYear_84 ?_
          refine lv_bipush (v := 7) hx hb dX5_endsYear_87 (by decide) ?_
          refine lv_dup2_11 hx hb dX5_endsYear_89 rfl rfl ?_
          refine mo_ald hx hb hw hM 0 rfl (j := 7) rfl (show 7 < 137 by omega) dX5_endsYear_90 ?_
          refine lv_tope (y := ((o_yr (σ.2 0) (o_people (σ.2 0))).1) 7) ((congrFun mo_na_2 _)) ?_
          refine lv_iload_n hx hb dX5_endsYear_91 rfl (lv_at hl 1 rfl) ?_
          refine lv_iadd hx hb dX5_endsYear_92 ?_
          refine mo_ast hx hb hw hM hF 0 rfl (j := 7) rfl (show 7 < 137 by omega) dX5_endsYear_93 (fun hh H locs hM hF hw => ?_)
          rw [mo_na_sa] at hM
          refine lv_aload_n hx hb dX5_endsYear_94 rfl (lv_at hl 3 rfl) ?_
          refine mo_get hx hb hts hown hw hM 0 (by decide) q2554 rfl (v := .ref (ma 0)) rfl dX5_endsYear_95 ?_
          refine lv_iconst (v := 0) hx hb dX5_endsYear_98 (by decide) ?_
          refine lv_dup2_11 hx hb dX5_endsYear_99 rfl rfl ?_
          refine mo_ald hx hb hw hM 0 rfl (j := 0) rfl (show 0 < 137 by omega) dX5_endsYear_100 ?_
          refine lv_tope (y := ((o_yr (σ.2 0) (o_people (σ.2 0))).1) 0) (((congrFun mo_na_2 _).trans (upd_ne (show 0 ≠ 7 by omega)))) ?_
          refine lv_iconst (v := 1) hx hb dX5_endsYear_101 (by decide) ?_
          refine lv_iadd hx hb dX5_endsYear_102 ?_
          refine mo_ast hx hb hw hM hF 0 rfl (j := 0) rfl (show 0 < 137 by omega) dX5_endsYear_103 (fun hh H locs hM hF hw => ?_)
          rw [mo_na_sa] at hM
          refine lv_iload_n hx hb dX5_endsYear_104 rfl (lv_at hl 1 rfl) ?_
          exact hret rfl hw ⟨_, (⟨rfl, rfl⟩ : m_inn σ (i_year (σ.2 0)) (mo_na σ (upd (upd ((o_yr (σ.2 0) (o_people (σ.2 0))).1) 7 ((((o_yr (σ.2 0) (o_people (σ.2 0))).1) 7) + ((o_yr (σ.2 0) (o_people (σ.2 0))).2))) 0 ((((o_yr (σ.2 0) (o_people (σ.2 0))).1) 0) + 1))) ((o_yr (σ.2 0) (o_people (σ.2 0))).2)), hM, hF⟩ (Nat.le_of_ble_eq_true rfl) (Nat.le_of_ble_eq_true rfl) dX5_endsYear_105
        · skip
          have hxk : k < o_people (σ.2 0) := cmp_nle c56 hbk rfl (by omega) (by omega)
          refine lv_iload_n hx hb dX5_endsYear_59 rfl (lv_at hl 1 rfl) ?_
          refine lv_aload_n hx hb dX5_endsYear_60 rfl (lv_at hl 3 rfl) ?_
          refine lv_iload_n hx hb dX5_endsYear_61 rfl (lv_at hl 0 rfl) ?_
          refine lv_iload_n hx hb dX5_endsYear_62 rfl (lv_at hl 0 rfl) ?_
          refine lv_iload_n hx hb dX5_endsYear_63 rfl (lv_at hl 2 rfl) ?_
          refine lv_mat1 (P := (nI k) = (o_aud (σ.2 0))) (j := 72) (fun k1 k2 => lv_icmp_ne (tgt := 71) hx hb dX5_endsYear_64 (by decide) (fun c => lv_iconst (v := 0) hx hb dX5_endsYear_71 (by decide) (k2 c)) (fun c => lv_iconst (v := 1) hx hb dX5_endsYear_67 (by decide) (lv_goto (tgt := 72) hx hb dX5_endsYear_68 (by decide) (k1 c)))) ?_
          have hpk : o_people (o_yr (σ.2 0) k).1 = o_people (σ.2 0) := (hoky k (by omega)).2
          refine mo_calli (va_runV (As := [.int (nI k), .int (b01 ((nI k) = (o_aud (σ.2 0))))]) (rest := [.int ((o_yr (σ.2 0) k).2)]) ⟨hx, hb, hml, hown, hts⟩ (met_X5_pays l G hM k ((nI k) = (o_aud (σ.2 0))) ((hoky k (by omega)).1) (show k < o_people (o_yr (σ.2 0) k).1 from by rw [hpk]; omega)) (cwV 2 hts (lw_V q2792 q2794 qs68 q106 q2795) rfl rfl rfl (by decide +kernel) ⟨Nat.le_of_ble_eq_true rfl, Nat.le_of_ble_eq_true rfl⟩) (hv_preV hw pk_X5 hM.1) rfl rfl hl.1 rfl (lv_room (Nat.le_of_ble_eq_true rfl)) dX5_endsYear_72 ⟨Nat.le_of_ble_eq_true rfl, Nat.le_of_ble_eq_true rfl⟩) hw hF (fun hh H locs hM hF hw => ?_)
          have hM : isMod G hh o ma (mo_na σ (o_yr (σ.2 0) (k + 1)).1) := by have h9 := hM; rw [mo_na_na] at h9; exact h9
          refine lv_iadd hx hb dX5_endsYear_75 ?_
          refine lv_istore_n (lv' := [(2, .int (((o_yr (σ.2 0) k).2) + (o_paid (((o_yr (σ.2 0) k).1)) k ((nI k) = (o_aud (σ.2 0)))))), (3, .int (nI k)), (1, .int (o_aud (σ.2 0))), (0, .ref o)]) hx hb dX5_endsYear_76 rfl hl (by decide) rfl (fun ls hl => ?_)
          refine lv_iinc (v := nI (k + 1)) (lv' := [(3, .int (nI (k + 1))), (2, .int (((o_yr (σ.2 0) k).2) + (o_paid (((o_yr (σ.2 0) k).1)) k ((nI k) = (o_aud (σ.2 0)))))), (1, .int (o_aud (σ.2 0))), (0, .ref o)]) hx hb dX5_endsYear_77 hl (k := 1) rfl (by simp only [nI, Int32.ofNat_add] <;> rfl) (by decide) rfl (fun ls hl => ?_)
          refine lv_goto (tgt := 49) hx hb dX5_endsYear_80 (by decide) ?_
          exact ih49 (k + 1) _ _ _ _ (by omega) (by omega) hM hF hw (lv_sub hl [0, 1, 2, 3] rfl)
    exact LP49 _ 0 _ _ _ _ (Nat.lt_succ_self _) (by omega) hM hF hw (lv_sub hl [0, 1, 2, 3] rfl)
  · skip
    refine lv_iconst (v := (-1)) hx hb dX5_endsYear_26 (by decide) ?_
    refine lv_goto (tgt := 44) hx hb dX5_endsYear_27 (by decide) ?_
    refine lv_tope (y := o_aud (σ.2 0)) ((if_pos c23).symm) ?_
    refine lv_istore_n (lv' := [(1, .int (o_aud (σ.2 0))), (0, .ref o)]) hx hb dX5_endsYear_44 rfl hl (by decide) rfl (fun ls hl => ?_)
    refine lv_iconst (v := 0) hx hb dX5_endsYear_45 (by decide) ?_
    refine lv_istore_n (lv' := [(2, .int 0), (1, .int (o_aud (σ.2 0))), (0, .ref o)]) hx hb dX5_endsYear_46 rfl hl (by decide) rfl (fun ls hl => ?_)
    refine lv_iconst (v := 0) hx hb dX5_endsYear_47 (by decide) ?_
    refine lv_istore_n (lv' := [(3, .int 0), (2, .int 0), (1, .int (o_aud (σ.2 0))), (0, .ref o)]) hx hb dX5_endsYear_48 rfl hl (by decide) rfl (fun ls hl => ?_)
    have hM : isMod G hh o ma (mo_na σ (o_yr (σ.2 0) 0).1) := hM
    have LP49 : ∀ (n49 : Nat) (k : Nat) (hh : hp) (H : Heap) (locs : List Loc) (ls : Array Slot), o_people (σ.2 0) - k < n49 → k ≤ o_people (σ.2 0) → isMod G hh o ma (mo_na σ (o_yr (σ.2 0) k).1) → mo_fr o ma h hh → hv_W G s hh H locs → lv_has ls 4 [(3, .int (nI k)), (2, .int ((o_yr (σ.2 0) k).2)), (1, .int (o_aud (σ.2 0))), (0, .ref o)] → W p l e ({ frames := 5, cells := 0, slots := 0, locals := 119 } : Room) s m a below meth c H locs 0 0 Q (F0 m 49 ls []) := by
      intro n49
      induction n49 with
      | zero => exact fun k hh H locs ls hmu49 => absurd hmu49 (Nat.not_lt_zero _)
      | succ n49 ih49 =>
        intro k hh H locs ls hmu49 hkk hM hF hw hl
        have hbk : (o_yr (σ.2 0) k).1 5 = nI (o_people (σ.2 0)) := by have h9 := (hoky k hkk).1.2.2.2.1; rw [(hoky k hkk).2] at h9; exact h9
        refine lv_iload_n hx hb dX5_endsYear_49 rfl (lv_at hl 0 rfl) ?_
        refine lv_aload_n hx hb dX5_endsYear_50 rfl (lv_at hl 3 rfl) ?_
        refine mo_get hx hb hts hown hw hM 0 (by decide) q2554 rfl (v := .ref (ma 0)) rfl dX5_endsYear_51 ?_
        refine lv_iconst (v := 5) hx hb dX5_endsYear_54 (by decide) ?_
        refine mo_ald hx hb hw hM 0 rfl (j := 5) rfl (show 5 < 137 by omega) dX5_endsYear_55 ?_
        refine lv_tope (y := ((o_yr (σ.2 0) k).1) 5) ((congrFun mo_na_2 _)) ?_
        refine lv_icmp_ge (tgt := 83) hx hb dX5_endsYear_56 (by decide) (fun c56 => ?_) (fun c56 => ?_)
        · skip
          have hxk : o_people (σ.2 0) ≤ k := cmp_le c56 hbk rfl (by omega) (by omega)
          obtain rfl : k = o_people (σ.2 0) := by omega
          refine lv_aload_n hx hb dX5_endsYear_83 rfl (lv_at hl 3 rfl) ?_
          refine mo_get hx hb hts hown hw hM 0 (by decide) q2554 rfl (v := .ref (ma 0)) rfl dX5_endsYear_84 ?_
          refine lv_bipush (v := 7) hx hb dX5_endsYear_87 (by decide) ?_
          refine lv_dup2_11 hx hb dX5_endsYear_89 rfl rfl ?_
          refine mo_ald hx hb hw hM 0 rfl (j := 7) rfl (show 7 < 137 by omega) dX5_endsYear_90 ?_
          refine lv_tope (y := ((o_yr (σ.2 0) (o_people (σ.2 0))).1) 7) ((congrFun mo_na_2 _)) ?_
          refine lv_iload_n hx hb dX5_endsYear_91 rfl (lv_at hl 1 rfl) ?_
          refine lv_iadd hx hb dX5_endsYear_92 ?_
          refine mo_ast hx hb hw hM hF 0 rfl (j := 7) rfl (show 7 < 137 by omega) dX5_endsYear_93 (fun hh H locs hM hF hw => ?_)
          rw [mo_na_sa] at hM
          refine lv_aload_n hx hb dX5_endsYear_94 rfl (lv_at hl 3 rfl) ?_
          refine mo_get hx hb hts hown hw hM 0 (by decide) q2554 rfl (v := .ref (ma 0)) rfl dX5_endsYear_95 ?_
          refine lv_iconst (v := 0) hx hb dX5_endsYear_98 (by decide) ?_
          refine lv_dup2_11 hx hb dX5_endsYear_99 rfl rfl ?_
          refine mo_ald hx hb hw hM 0 rfl (j := 0) rfl (show 0 < 137 by omega) dX5_endsYear_100 ?_
          refine lv_tope (y := ((o_yr (σ.2 0) (o_people (σ.2 0))).1) 0) (((congrFun mo_na_2 _).trans (upd_ne (show 0 ≠ 7 by omega)))) ?_
          refine lv_iconst (v := 1) hx hb dX5_endsYear_101 (by decide) ?_
          refine lv_iadd hx hb dX5_endsYear_102 ?_
          refine mo_ast hx hb hw hM hF 0 rfl (j := 0) rfl (show 0 < 137 by omega) dX5_endsYear_103 (fun hh H locs hM hF hw => ?_)
          rw [mo_na_sa] at hM
          refine lv_iload_n hx hb dX5_endsYear_104 rfl (lv_at hl 1 rfl) ?_
          exact hret rfl hw ⟨_, (⟨rfl, rfl⟩ : m_inn σ (i_year (σ.2 0)) (mo_na σ (upd (upd ((o_yr (σ.2 0) (o_people (σ.2 0))).1) 7 ((((o_yr (σ.2 0) (o_people (σ.2 0))).1) 7) + ((o_yr (σ.2 0) (o_people (σ.2 0))).2))) 0 ((((o_yr (σ.2 0) (o_people (σ.2 0))).1) 0) + 1))) ((o_yr (σ.2 0) (o_people (σ.2 0))).2)), hM, hF⟩ (Nat.le_of_ble_eq_true rfl) (Nat.le_of_ble_eq_true rfl) dX5_endsYear_105
        · skip
          have hxk : k < o_people (σ.2 0) := cmp_nle c56 hbk rfl (by omega) (by omega)
          refine lv_iload_n hx hb dX5_endsYear_59 rfl (lv_at hl 1 rfl) ?_
          refine lv_aload_n hx hb dX5_endsYear_60 rfl (lv_at hl 3 rfl) ?_
          refine lv_iload_n hx hb dX5_endsYear_61 rfl (lv_at hl 0 rfl) ?_
          refine lv_iload_n hx hb dX5_endsYear_62 rfl (lv_at hl 0 rfl) ?_
          refine lv_iload_n hx hb dX5_endsYear_63 rfl (lv_at hl 2 rfl) ?_
          refine lv_mat1 (P := (nI k) = (o_aud (σ.2 0))) (j := 72) (fun k1 k2 => lv_icmp_ne (tgt := 71) hx hb dX5_endsYear_64 (by decide) (fun c => lv_iconst (v := 0) hx hb dX5_endsYear_71 (by decide) (k2 c)) (fun c => lv_iconst (v := 1) hx hb dX5_endsYear_67 (by decide) (lv_goto (tgt := 72) hx hb dX5_endsYear_68 (by decide) (k1 c)))) ?_
          have hpk : o_people (o_yr (σ.2 0) k).1 = o_people (σ.2 0) := (hoky k (by omega)).2
          refine mo_calli (va_runV (As := [.int (nI k), .int (b01 ((nI k) = (o_aud (σ.2 0))))]) (rest := [.int ((o_yr (σ.2 0) k).2)]) ⟨hx, hb, hml, hown, hts⟩ (met_X5_pays l G hM k ((nI k) = (o_aud (σ.2 0))) ((hoky k (by omega)).1) (show k < o_people (o_yr (σ.2 0) k).1 from by rw [hpk]; omega)) (cwV 2 hts (lw_V q2792 q2794 qs68 q106 q2795) rfl rfl rfl (by decide +kernel) ⟨Nat.le_of_ble_eq_true rfl, Nat.le_of_ble_eq_true rfl⟩) (hv_preV hw pk_X5 hM.1) rfl rfl hl.1 rfl (lv_room (Nat.le_of_ble_eq_true rfl)) dX5_endsYear_72 ⟨Nat.le_of_ble_eq_true rfl, Nat.le_of_ble_eq_true rfl⟩) hw hF (fun hh H locs hM hF hw => ?_)
          have hM : isMod G hh o ma (mo_na σ (o_yr (σ.2 0) (k + 1)).1) := by have h9 := hM; rw [mo_na_na] at h9; exact h9
          refine lv_iadd hx hb dX5_endsYear_75 ?_
          refine lv_istore_n (lv' := [(2, .int (((o_yr (σ.2 0) k).2) + (o_paid (((o_yr (σ.2 0) k).1)) k ((nI k) = (o_aud (σ.2 0)))))), (3, .int (nI k)), (1, .int (o_aud (σ.2 0))), (0, .ref o)]) hx hb dX5_endsYear_76 rfl hl (by decide) rfl (fun ls hl => ?_)
          refine lv_iinc (v := nI (k + 1)) (lv' := [(3, .int (nI (k + 1))), (2, .int (((o_yr (σ.2 0) k).2) + (o_paid (((o_yr (σ.2 0) k).1)) k ((nI k) = (o_aud (σ.2 0)))))), (1, .int (o_aud (σ.2 0))), (0, .ref o)]) hx hb dX5_endsYear_77 hl (k := 1) rfl (by simp only [nI, Int32.ofNat_add] <;> rfl) (by decide) rfl (fun ls hl => ?_)
          refine lv_goto (tgt := 49) hx hb dX5_endsYear_80 (by decide) ?_
          exact ih49 (k + 1) _ _ _ _ (by omega) (by omega) hM hF hw (lv_sub hl [0, 1, 2, 3] rfl)
    exact LP49 _ 0 _ _ _ _ (Nat.lt_succ_self _) (by omega) hM hF hw (lv_sub hl [0, 1, 2, 3] rfl)
set_option maxHeartbeats 1000000 in
theorem met_X5_endYear (l : Launch) (G : hG) {h : hp} {o : Nat} {ma : Nat → Nat} {σ : MS} (hM : isMod G h o ma σ)  (hok : okI (σ.2 0)) (h5 : σ.1 5 = nI (o_n (σ.1 5)) ∧ o_n (σ.1 5) ≤ 8) (hoky : ∀ k, k ≤ o_people (σ.2 0) → okI (o_yr (σ.2 0) k).1 ∧ o_people (o_yr (σ.2 0) k).1 = o_people (σ.2 0)) : hv_Mi l G yX5_endYear (ws_ yX5_endYear cX5_endYear 1 (Option.some Jvm.ClassFile.FieldType.int)) ({ frames := 6, cells := 0, slots := 0, locals := 142 } : Room) [.ref o] h (fun r hh => ∃ σ2, (m_pub σ (i_year (σ.2 0)) σ2 r) ∧ isMod G hh o ma σ2 ∧ mo_fr o ma h hh) := by
  refine hv_bi .int (Or.inl rfl) (own := RX5) (by decide +kernel) rfl (Nat.le_of_ble_eq_true rfl) (fun p e s m a below meth c ls Q hx hb hml hown hts hnm hret hw hl => ?_)
  have hl : lv_has ls 1 [(0, .ref o)] := hl
  have hF : mo_fr o ma h h := mo_fr.rf
  refine lv_aload_n hx hb dX5_endYear_0 rfl (lv_at hl 0 rfl) ?_
  refine mo_callv (va_runV (As := []) (rest := []) ⟨hx, hb, hml, hown, hts⟩ (met_X5_begins l G hM  ) (cwV 0 hts (lw_V q2654 q2656 qs45 q106 q2657) rfl rfl rfl (by decide +kernel) ⟨Nat.le_of_ble_eq_true rfl, Nat.le_of_ble_eq_true rfl⟩) (hv_preV hw pk_X5 hM.1) rfl rfl hl.1 rfl (lv_room (Nat.le_of_ble_eq_true rfl)) dX5_endYear_1 ⟨Nat.le_of_ble_eq_true rfl, Nat.le_of_ble_eq_true rfl⟩) hw hF (fun hh H locs hM hF hw => ?_)
  refine lv_aload_n hx hb dX5_endYear_4 rfl (lv_at hl 0 rfl) ?_
  refine lv_aload_n hx hb dX5_endYear_5 rfl (lv_at hl 0 rfl) ?_
  refine hv_calli (va_runV (As := []) (rest := [.ref o]) ⟨hx, hb, hml, hown, hts⟩ (met_X5_endsYear l G hM  (hok) (rfl) (hoky)) (cwV 0 hts (lw_V q2785 q2787 qs67 q106 q2788) rfl rfl rfl (by decide +kernel) ⟨Nat.le_of_ble_eq_true rfl, Nat.le_of_ble_eq_true rfl⟩) (hv_preV hw pk_X5 hM.1) rfl rfl hl.1 rfl (lv_room (Nat.le_of_ble_eq_true rfl)) dX5_endYear_6 ⟨Nat.le_of_ble_eq_true rfl, Nat.le_of_ble_eq_true rfl⟩) hw (fun r_1 hh H locs hp hw => ?_)
  obtain ⟨σ_1, hI_1, hM, hF9⟩ := hp
  have hF := hF.tr hF9
  have hI_1 : m_inn (m_beg σ) (i_year (σ.2 0)) σ_1 r_1 := hI_1
  obtain ⟨e9_, e8_⟩ := hI_1
  subst e9_; subst e8_
  refine mo_calli (va_runV (As := [.int ((o_yr (σ.2 0) (o_people (σ.2 0))).2)]) (rest := []) ⟨hx, hb, hml, hown, hts⟩ (met_X5_ends_ok l G hM ((o_yr (σ.2 0) (o_people (σ.2 0))).2) (rfl) (h5)) (cwV 1 hts (lw_V q2677 q2679 qs50 q106 q2680) rfl rfl rfl (by decide +kernel) ⟨Nat.le_of_ble_eq_true rfl, Nat.le_of_ble_eq_true rfl⟩) (hv_preV hw pk_X5 hM.1) rfl rfl hl.1 rfl (lv_room (Nat.le_of_ble_eq_true rfl)) dX5_endYear_9 ⟨Nat.le_of_ble_eq_true rfl, Nat.le_of_ble_eq_true rfl⟩) hw hF (fun hh H locs hM hF hw => ?_)
  exact hret rfl hw ⟨_, pub_ok h5, hM, hF⟩ (Nat.le_of_ble_eq_true rfl) (Nat.le_of_ble_eq_true rfl) dX5_endYear_12
