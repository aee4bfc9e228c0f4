set_option maxRecDepth 100000
set_option maxHeartbeats 2000000 in
theorem met_X5_does (l : Launch) (G : hG) {h : hp} {o : Nat} {ma : Nat → Nat} {σ : MS} (hM : isMod G h o ma σ) (k9 : Nat) (f9 : Nat) (x9 : Int32) (y9 : Int32) (z9 : Int32) (w9 : Int32) (hhc : m_has σ k9 (f9, x9, y9, z9, w9)) (hk : k9 < 16) (hf8 : f9 < 8) (hok : okI (σ.2 0)) (h16 : σ.1 16 = 0) (hoky : okY (σ.2 0)) : hv_Mi l G yX5_does (ws_ yX5_does cX5_does 4 (Option.some Jvm.ClassFile.FieldType.int)) ({ frames := 6, cells := 0, slots := 0, locals := 142 } : Room) [.ref o, .int (nI k9)] h (fun r hh => ∃ σ2, (m_inn σ (i_cmd (σ.2 0) (f9, x9, y9, z9, w9)) σ2 r) ∧ isMod G hh o ma σ2 ∧ mo_fr o ma h hh) := by
  refine hv_bi .int (Or.inl rfl) (own := RX5) (by decide +kernel) rfl (Nat.le_of_ble_eq_true rfl) (fun p e s m a below meth c ls Q hx hb hml hown hts hnm hret hw hl => ?_)
  have hl : lv_has ls 4 [(0, .ref o), (1, .int (nI k9))] := hl
  have hF : mo_fr o ma h h := mo_fr.rf
  refine lv_aload_n hx hb dX5_does_0 rfl (lv_at hl 0 rfl) ?_
  refine mo_get hx hb hts hown hw hM 23 (by decide) q2577 rfl (v := .ref (ma 23)) rfl dX5_does_1 ?_
  refine lv_iconst (v := 4) hx hb dX5_does_4 (by decide) ?_
  refine lv_iload_n hx hb dX5_does_5 rfl (lv_at hl 1 rfl) ?_
  refine lv_imul hx hb dX5_does_6 ?_
  refine lv_tope (y := nI (4 * k9)) (by simp only [nI, Int32.ofNat_add, Int32.ofNat_mul] <;> rfl) ?_
  refine mo_ald hx hb hw hM 23 rfl (j := (4 * k9)) rfl (show 4 * k9 < 64 by omega) dX5_does_7 ?_
  refine lv_istore_n (lv' := [(2, .int (σ.2 23 (4 * k9))), (0, .ref o), (1, .int (nI k9))]) hx hb dX5_does_8 rfl hl (by decide) rfl (fun ls hl => ?_)
  refine lv_aload_n hx hb dX5_does_9 rfl (lv_at hl 1 rfl) ?_
  refine mo_get hx hb hts hown hw hM 23 (by decide) q2577 rfl (v := .ref (ma 23)) rfl dX5_does_10 ?_
  refine lv_iconst (v := 4) hx hb dX5_does_13 (by decide) ?_
  refine lv_iload_n hx hb dX5_does_14 rfl (lv_at hl 2 rfl) ?_
  refine lv_imul hx hb dX5_does_15 ?_
  refine lv_tope (y := nI (4 * k9)) (by simp only [nI, Int32.ofNat_add, Int32.ofNat_mul] <;> rfl) ?_
  refine lv_iconst (v := 1) hx hb dX5_does_16 (by decide) ?_
  refine lv_iadd hx hb dX5_does_17 ?_
  refine lv_tope (y := nI (4 * k9 + 1)) (by simp only [nI, Int32.ofNat_add, Int32.ofNat_mul] <;> rfl) ?_
  refine mo_ald hx hb hw hM 23 rfl (j := (4 * k9 + 1)) rfl (show 4 * k9 + 1 < 64 by omega) dX5_does_18 ?_
  refine lv_istore_n (lv' := [(3, .int (σ.2 23 (4 * k9 + 1))), (2, .int (σ.2 23 (4 * k9))), (0, .ref o), (1, .int (nI k9))]) hx hb dX5_does_19 rfl hl (by decide) rfl (fun ls hl => ?_)
  refine lv_aload_n hx hb dX5_does_20 rfl (lv_at hl 2 rfl) ?_
  refine mo_get hx hb hts hown hw hM 22 (by decide) q2576 rfl (v := .ref (ma 22)) rfl dX5_does_21 ?_
  refine lv_iload_n hx hb dX5_does_24 rfl (lv_at hl 3 rfl) ?_
  refine mo_ald hx hb hw hM 22 rfl (j := k9) rfl (show k9 < 16 by omega) dX5_does_25 ?_
  refine lv_tope (y := nI f9) (hhc.1) ?_
  rcases (show f9 = 0 ∨ f9 = 1 ∨ f9 = 2 ∨ f9 = 3 ∨ f9 = 4 ∨ f9 = 5 ∨ f9 = 6 ∨ 6 < f9 by omega) with rfl | rfl | rfl | rfl | rfl | rfl | rfl | tg
  · skip
    refine lv_tableIn (tgt := 68) hx hb dX5_does_26 (tab_in (n := 6) (show 0 ≤ 6 by omega) (by decide)).1 (tab_in (n := 6) (show 0 ≤ 6 by omega) (by decide)).2 (rfl) (by decide) ?_
    refine lv_aload_n hx hb dX5_does_68 rfl (lv_at hl 2 rfl) ?_
    refine lv_iload_n hx hb dX5_does_69 rfl (lv_at hl 1 rfl) ?_
    refine lv_iload_n hx hb dX5_does_70 rfl (lv_at hl 0 rfl) ?_
    refine hv_calli (va_runV (As := [.int (σ.2 23 (4 * k9)), .int (σ.2 23 (4 * k9 + 1))]) (rest := []) ⟨hx, hb, hml, hown, hts⟩ (met_X5_earns l G hM (σ.2 23 (4 * k9)) (σ.2 23 (4 * k9 + 1)) (hok) (h16)) (cwV 2 hts (lw_V q2732 q2734 qs57 q106 q2735) rfl rfl rfl (by decide +kernel) ⟨Nat.le_of_ble_eq_true rfl, Nat.le_of_ble_eq_true rfl⟩) (hv_preV hw pk_X5 hM.1) rfl rfl hl.1 rfl (lv_room (Nat.le_of_ble_eq_true rfl)) dX5_does_71 ⟨Nat.le_of_ble_eq_true rfl, Nat.le_of_ble_eq_true rfl⟩) hw (fun r_1 hh H locs hp hw => ?_)
    obtain ⟨σ_1, hI_1, hM, hF9⟩ := hp
    have hF := hF.tr hF9
    have hJ : m_inn σ (i_cmd (σ.2 0) (0, x9, y9, z9, w9)) σ_1 r_1 := by
      rw [i_cmd_0]
      have e1 := hhc.2.1 (show (0 : Nat) < 7 by decide); have e2 := hhc.2.2.1 (show (0 : Nat) < 6 by decide); dsimp only at e1 e2; subst e1; subst e2
      exact hI_1
    exact hret rfl hw ⟨_, hJ, hM, hF⟩ (Nat.le_of_ble_eq_true rfl) (Nat.le_of_ble_eq_true rfl) dX5_does_74
  · skip
    refine lv_tableIn (tgt := 75) hx hb dX5_does_26 (tab_in (n := 6) (show 1 ≤ 6 by omega) (by decide)).1 (tab_in (n := 6) (show 1 ≤ 6 by omega) (by decide)).2 (rfl) (by decide) ?_
    refine lv_aload_n hx hb dX5_does_75 rfl (lv_at hl 2 rfl) ?_
    refine lv_iload_n hx hb dX5_does_76 rfl (lv_at hl 1 rfl) ?_
    refine lv_iload_n hx hb dX5_does_77 rfl (lv_at hl 0 rfl) ?_
    refine lv_aload_n hx hb dX5_does_78 rfl (lv_at hl 2 rfl) ?_
    refine mo_get hx hb hts hown hw hM 23 (by decide) q2577 rfl (v := .ref (ma 23)) rfl dX5_does_79 ?_
    refine lv_iconst (v := 4) hx hb dX5_does_82 (by decide) ?_
    refine lv_iload_n hx hb dX5_does_83 rfl (lv_at hl 3 rfl) ?_
    refine lv_imul hx hb dX5_does_84 ?_
    refine lv_tope (y := nI (4 * k9)) (by simp only [nI, Int32.ofNat_add, Int32.ofNat_mul] <;> rfl) ?_
    refine lv_iconst (v := 2) hx hb dX5_does_85 (by decide) ?_
    refine lv_iadd hx hb dX5_does_86 ?_
    refine lv_tope (y := nI (4 * k9 + 2)) (by simp only [nI, Int32.ofNat_add, Int32.ofNat_mul] <;> rfl) ?_
    refine mo_ald hx hb hw hM 23 rfl (j := (4 * k9 + 2)) rfl (show 4 * k9 + 2 < 64 by omega) dX5_does_87 ?_
    refine lv_aload_n hx hb dX5_does_88 rfl (lv_at hl 2 rfl) ?_
    refine mo_get hx hb hts hown hw hM 23 (by decide) q2577 rfl (v := .ref (ma 23)) rfl dX5_does_89 ?_
    refine lv_iconst (v := 4) hx hb dX5_does_92 (by decide) ?_
    refine lv_iload_n hx hb dX5_does_93 rfl (lv_at hl 3 rfl) ?_
    refine lv_imul hx hb dX5_does_94 ?_
    refine lv_tope (y := nI (4 * k9)) (by simp only [nI, Int32.ofNat_add, Int32.ofNat_mul] <;> rfl) ?_
    refine lv_iconst (v := 3) hx hb dX5_does_95 (by decide) ?_
    refine lv_iadd hx hb dX5_does_96 ?_
    refine lv_tope (y := nI (4 * k9 + 3)) (by simp only [nI, Int32.ofNat_add, Int32.ofNat_mul] <;> rfl) ?_
    refine mo_ald hx hb hw hM 23 rfl (j := (4 * k9 + 3)) rfl (show 4 * k9 + 3 < 64 by omega) dX5_does_97 ?_
    refine lv_iconst (v := 1) hx hb dX5_does_98 (by decide) ?_
    refine lv_mat1 (P := (σ.2 23 (4 * k9 + 3)) = 1) (j := 107) (fun k1 k2 => lv_icmp_ne (tgt := 106) hx hb dX5_does_99 (by decide) (fun c => lv_iconst (v := 0) hx hb dX5_does_106 (by decide) (k2 c)) (fun c => lv_iconst (v := 1) hx hb dX5_does_102 (by decide) (lv_goto (tgt := 107) hx hb dX5_does_103 (by decide) (k1 c)))) ?_
    refine hv_calli (va_runV (As := [.int (σ.2 23 (4 * k9)), .int (σ.2 23 (4 * k9 + 1)), .int (σ.2 23 (4 * k9 + 2)), .int (b01 ((σ.2 23 (4 * k9 + 3)) = 1))]) (rest := []) ⟨hx, hb, hml, hown, hts⟩ (met_X5_claims l G hM (σ.2 23 (4 * k9)) (σ.2 23 (4 * k9 + 1)) (σ.2 23 (4 * k9 + 2)) ((σ.2 23 (4 * k9 + 3)) = 1) (hok) (h16)) (cwV 4 hts (lw_V q2756 q2758 qs62 q106 q2759) rfl rfl rfl (by decide +kernel) ⟨Nat.le_of_ble_eq_true rfl, Nat.le_of_ble_eq_true rfl⟩) (hv_preV hw pk_X5 hM.1) rfl rfl hl.1 rfl (lv_room (Nat.le_of_ble_eq_true rfl)) dX5_does_107 ⟨Nat.le_of_ble_eq_true rfl, Nat.le_of_ble_eq_true rfl⟩) hw (fun r_2 hh H locs hp hw => ?_)
    obtain ⟨σ_2, hI_2, hM, hF9⟩ := hp
    have hF := hF.tr hF9
    have hJ : m_inn σ (i_cmd (σ.2 0) (1, x9, y9, z9, w9)) σ_2 r_2 := by
      rw [i_cmd_1]
      have e1 := hhc.2.1 (show (1 : Nat) < 7 by decide); have e2 := hhc.2.2.1 (show (1 : Nat) < 6 by decide); have e3 := hhc.2.2.2 rfl; dsimp only at e1 e2 e3; obtain ⟨e3, e4⟩ := e3; subst e1; subst e2; subst e3; subst e4
      exact hI_2
    exact hret rfl hw ⟨_, hJ, hM, hF⟩ (Nat.le_of_ble_eq_true rfl) (Nat.le_of_ble_eq_true rfl) dX5_does_110
  · skip
    refine lv_tableIn (tgt := 111) hx hb dX5_does_26 (tab_in (n := 6) (show 2 ≤ 6 by omega) (by decide)).1 (tab_in (n := 6) (show 2 ≤ 6 by omega) (by decide)).2 (rfl) (by decide) ?_
    refine lv_aload_n hx hb dX5_does_111 rfl (lv_at hl 2 rfl) ?_
    refine lv_iload_n hx hb dX5_does_112 rfl (lv_at hl 1 rfl) ?_
    refine lv_iload_n hx hb dX5_does_113 rfl (lv_at hl 0 rfl) ?_
    refine hv_calli (va_runV (As := [.int (σ.2 23 (4 * k9)), .int (σ.2 23 (4 * k9 + 1))]) (rest := []) ⟨hx, hb, hml, hown, hts⟩ (met_X5_proves l G hM (σ.2 23 (4 * k9)) (σ.2 23 (4 * k9 + 1)) (hok) (h16)) (cwV 2 hts (lw_V q2777 q2779 qs66 q106 q2780) rfl rfl rfl (by decide +kernel) ⟨Nat.le_of_ble_eq_true rfl, Nat.le_of_ble_eq_true rfl⟩) (hv_preV hw pk_X5 hM.1) rfl rfl hl.1 rfl (lv_room (Nat.le_of_ble_eq_true rfl)) dX5_does_114 ⟨Nat.le_of_ble_eq_true rfl, Nat.le_of_ble_eq_true rfl⟩) hw (fun r_3 hh H locs hp hw => ?_)
    obtain ⟨σ_3, hI_3, hM, hF9⟩ := hp
    have hF := hF.tr hF9
    have hJ : m_inn σ (i_cmd (σ.2 0) (2, x9, y9, z9, w9)) σ_3 r_3 := by
      rw [i_cmd_2]
      have e1 := hhc.2.1 (show (2 : Nat) < 7 by decide); have e2 := hhc.2.2.1 (show (2 : Nat) < 6 by decide); dsimp only at e1 e2; subst e1; subst e2
      exact hI_3
    exact hret rfl hw ⟨_, hJ, hM, hF⟩ (Nat.le_of_ble_eq_true rfl) (Nat.le_of_ble_eq_true rfl) dX5_does_117
  · skip
    refine lv_tableIn (tgt := 118) hx hb dX5_does_26 (tab_in (n := 6) (show 3 ≤ 6 by omega) (by decide)).1 (tab_in (n := 6) (show 3 ≤ 6 by omega) (by decide)).2 (rfl) (by decide) ?_
    refine lv_aload_n hx hb dX5_does_118 rfl (lv_at hl 2 rfl) ?_
    refine lv_iload_n hx hb dX5_does_119 rfl (lv_at hl 1 rfl) ?_
    refine lv_iload_n hx hb dX5_does_120 rfl (lv_at hl 0 rfl) ?_
    refine hv_calli (va_runV (As := [.int (σ.2 23 (4 * k9)), .int (σ.2 23 (4 * k9 + 1))]) (rest := []) ⟨hx, hb, hml, hown, hts⟩ (met_X5_tells l G hM (σ.2 23 (4 * k9)) (σ.2 23 (4 * k9 + 1)) (hok) (h16)) (cwV 2 hts (lw_V q2658 q2660 qs46 q106 q2661) rfl rfl rfl (by decide +kernel) ⟨Nat.le_of_ble_eq_true rfl, Nat.le_of_ble_eq_true rfl⟩) (hv_preV hw pk_X5 hM.1) rfl rfl hl.1 rfl (lv_room (Nat.le_of_ble_eq_true rfl)) dX5_does_121 ⟨Nat.le_of_ble_eq_true rfl, Nat.le_of_ble_eq_true rfl⟩) hw (fun r_4 hh H locs hp hw => ?_)
    obtain ⟨σ_4, hI_4, hM, hF9⟩ := hp
    have hF := hF.tr hF9
    have hJ : m_inn σ (i_cmd (σ.2 0) (3, x9, y9, z9, w9)) σ_4 r_4 := by
      rw [i_cmd_3]
      have e1 := hhc.2.1 (show (3 : Nat) < 7 by decide); have e2 := hhc.2.2.1 (show (3 : Nat) < 6 by decide); dsimp only at e1 e2; subst e1; subst e2
      exact hI_4
    exact hret rfl hw ⟨_, hJ, hM, hF⟩ (Nat.le_of_ble_eq_true rfl) (Nat.le_of_ble_eq_true rfl) dX5_does_124
  · skip
    refine lv_tableIn (tgt := 125) hx hb dX5_does_26 (tab_in (n := 6) (show 4 ≤ 6 by omega) (by decide)).1 (tab_in (n := 6) (show 4 ≤ 6 by omega) (by decide)).2 (rfl) (by decide) ?_
    refine lv_aload_n hx hb dX5_does_125 rfl (lv_at hl 2 rfl) ?_
    refine lv_iload_n hx hb dX5_does_126 rfl (lv_at hl 1 rfl) ?_
    refine lv_iload_n hx hb dX5_does_127 rfl (lv_at hl 0 rfl) ?_
    refine hv_calli (va_runV (As := [.int (σ.2 23 (4 * k9)), .int (σ.2 23 (4 * k9 + 1))]) (rest := []) ⟨hx, hb, hml, hown, hts⟩ (met_X5_rates l G hM (σ.2 23 (4 * k9)) (σ.2 23 (4 * k9 + 1)) (hok) (h16)) (cwV 2 hts (lw_V q2705 q2707 qs55 q106 q2708) rfl rfl rfl (by decide +kernel) ⟨Nat.le_of_ble_eq_true rfl, Nat.le_of_ble_eq_true rfl⟩) (hv_preV hw pk_X5 hM.1) rfl rfl hl.1 rfl (lv_room (Nat.le_of_ble_eq_true rfl)) dX5_does_128 ⟨Nat.le_of_ble_eq_true rfl, Nat.le_of_ble_eq_true rfl⟩) hw (fun r_5 hh H locs hp hw => ?_)
    obtain ⟨σ_5, hI_5, hM, hF9⟩ := hp
    have hF := hF.tr hF9
    have hJ : m_inn σ (i_cmd (σ.2 0) (4, x9, y9, z9, w9)) σ_5 r_5 := by
      rw [i_cmd_4]
      have e1 := hhc.2.1 (show (4 : Nat) < 7 by decide); have e2 := hhc.2.2.1 (show (4 : Nat) < 6 by decide); dsimp only at e1 e2; subst e1; subst e2
      exact hI_5
    exact hret rfl hw ⟨_, hJ, hM, hF⟩ (Nat.le_of_ble_eq_true rfl) (Nat.le_of_ble_eq_true rfl) dX5_does_131
  · skip
    refine lv_tableIn (tgt := 132) hx hb dX5_does_26 (tab_in (n := 6) (show 5 ≤ 6 by omega) (by decide)).1 (tab_in (n := 6) (show 5 ≤ 6 by omega) (by decide)).2 (rfl) (by decide) ?_
    refine lv_aload_n hx hb dX5_does_132 rfl (lv_at hl 2 rfl) ?_
    refine lv_iload_n hx hb dX5_does_133 rfl (lv_at hl 1 rfl) ?_
    refine lv_iload_n hx hb dX5_does_134 rfl (lv_at hl 0 rfl) ?_
    refine hv_calli (va_runV (As := [.int (σ.2 23 (4 * k9)), .int (σ.2 23 (4 * k9 + 1))]) (rest := []) ⟨hx, hb, hml, hown, hts⟩ (met_X5_caps l G hM (σ.2 23 (4 * k9)) (σ.2 23 (4 * k9 + 1)) (hok) (h16)) (cwV 2 hts (lw_V q2717 q2719 qs56 q106 q2720) rfl rfl rfl (by decide +kernel) ⟨Nat.le_of_ble_eq_true rfl, Nat.le_of_ble_eq_true rfl⟩) (hv_preV hw pk_X5 hM.1) rfl rfl hl.1 rfl (lv_room (Nat.le_of_ble_eq_true rfl)) dX5_does_135 ⟨Nat.le_of_ble_eq_true rfl, Nat.le_of_ble_eq_true rfl⟩) hw (fun r_6 hh H locs hp hw => ?_)
    obtain ⟨σ_6, hI_6, hM, hF9⟩ := hp
    have hF := hF.tr hF9
    have hJ : m_inn σ (i_cmd (σ.2 0) (5, x9, y9, z9, w9)) σ_6 r_6 := by
      rw [i_cmd_5]
      have e1 := hhc.2.1 (show (5 : Nat) < 7 by decide); have e2 := hhc.2.2.1 (show (5 : Nat) < 6 by decide); dsimp only at e1 e2; subst e1; subst e2
      exact hI_6
    exact hret rfl hw ⟨_, hJ, hM, hF⟩ (Nat.le_of_ble_eq_true rfl) (Nat.le_of_ble_eq_true rfl) dX5_does_138
  · skip
    refine lv_tableIn (tgt := 139) hx hb dX5_does_26 (tab_in (n := 6) (show 6 ≤ 6 by omega) (by decide)).1 (tab_in (n := 6) (show 6 ≤ 6 by omega) (by decide)).2 (rfl) (by decide) ?_
    refine lv_aload_n hx hb dX5_does_139 rfl (lv_at hl 2 rfl) ?_
    refine lv_iload_n hx hb dX5_does_140 rfl (lv_at hl 1 rfl) ?_
    refine hv_calli (va_runV (As := [.int (σ.2 23 (4 * k9))]) (rest := []) ⟨hx, hb, hml, hown, hts⟩ (met_X5_drops l G hM (σ.2 23 (4 * k9)) (hok) (h16)) (cwV 1 hts (lw_V q2689 q2691 qs52 q106 q2692) rfl rfl rfl (by decide +kernel) ⟨Nat.le_of_ble_eq_true rfl, Nat.le_of_ble_eq_true rfl⟩) (hv_preV hw pk_X5 hM.1) rfl rfl hl.1 rfl (lv_room (Nat.le_of_ble_eq_true rfl)) dX5_does_141 ⟨Nat.le_of_ble_eq_true rfl, Nat.le_of_ble_eq_true rfl⟩) hw (fun r_7 hh H locs hp hw => ?_)
    obtain ⟨σ_7, hI_7, hM, hF9⟩ := hp
    have hF := hF.tr hF9
    have hJ : m_inn σ (i_cmd (σ.2 0) (6, x9, y9, z9, w9)) σ_7 r_7 := by
      rw [i_cmd_6]
      have e1 := hhc.2.1 (show (6 : Nat) < 7 by decide); dsimp only at e1; subst e1
      exact hI_7
    exact hret rfl hw ⟨_, hJ, hM, hF⟩ (Nat.le_of_ble_eq_true rfl) (Nat.le_of_ble_eq_true rfl) dX5_does_144
  · skip
    refine lv_tableOut (tgt := 145) hx hb dX5_does_26 (Or.inr (by rw [nI_toInt (show f9 < 2 ^ 31 by omega)]; omega)) (by decide) ?_
    refine lv_aload_n hx hb dX5_does_145 rfl (lv_at hl 2 rfl) ?_
    refine hv_calli (va_runV (As := []) (rest := []) ⟨hx, hb, hml, hown, hts⟩ (met_X5_endsYear l G hM  (hok) (h16) (hoky)) (cwV 0 hts (lw_V q2785 q2787 qs67 q106 q2788) rfl rfl rfl (by decide +kernel) ⟨Nat.le_of_ble_eq_true rfl, Nat.le_of_ble_eq_true rfl⟩) (hv_preV hw pk_X5 hM.1) rfl rfl hl.1 rfl (lv_room (Nat.le_of_ble_eq_true rfl)) dX5_does_146 ⟨Nat.le_of_ble_eq_true rfl, Nat.le_of_ble_eq_true rfl⟩) hw (fun r_8 hh H locs hp hw => ?_)
    obtain ⟨σ_8, hI_8, hM, hF9⟩ := hp
    have hF := hF.tr hF9
    obtain rfl : f9 = 7 := by omega
    have hJ : m_inn σ (i_cmd (σ.2 0) (7, x9, y9, z9, w9)) σ_8 r_8 := by
      rw [i_cmd_7]
      exact hI_8
    exact hret rfl hw ⟨_, hJ, hM, hF⟩ (Nat.le_of_ble_eq_true rfl) (Nat.le_of_ble_eq_true rfl) dX5_does_149
