set_option maxRecDepth 100000
set_option maxHeartbeats 2000000 in
theorem met_X5_readsCommand (l : Launch) (G : hG) {h : hp} {o : Nat} {ma : Nat → Nat} {σ : MS} {t9 : Nat} {n9 : Nat} {s9 : TS} (hM : isMod G h o ma (m_ts σ s9))  (hC : hv_C G) (hwr : s9.2 = -1) (ht : σ.1 21 = nI t9) (ht6 : t9 < 16) (hn9 : σ.1 18 = nI n9) (hn6 : n9 ≤ 60) (hs9 : s9.1 ≤ n9) : hv_Mv l G yX5_readsCommand (ws_ yX5_readsCommand cX5_readsCommand 3 (Option.none : Option Jvm.ClassFile.FieldType)) ({ frames := 5, cells := 0, slots := 0, locals := 110 } : Room) [.ref o] h (fun hh => ∃ σ2, (∃ τ2, σ2 = m_ts τ2 (t_cmd (σ.2 10) n9 s9).1 ∧ m_cmd σ t9 (t_cmd (σ.2 10) n9 s9).2 τ2) ∧ isMod G hh o ma σ2 ∧ mo_fr o ma h hh) := by
  refine hv_bv (own := RX5) (by decide +kernel) rfl (Nat.le_of_ble_eq_true rfl) (fun p e s m a below meth c ls Q hx hb hml hown hts hnm hret hw hl => ?_)
  have hl : lv_has ls 3 [(0, .ref o)] := hl
  have hF : mo_fr o ma h h := mo_fr.rf
  refine lv_aload_n hx hb dX5_readsCommand_0 rfl (lv_at hl 0 rfl) ?_
  have hs_1 : (t_word (σ.2 10) n9 s9).1.1 ≤ n9 := t_word_le (show s9.1 ≤ n9 by omega)
  refine mo_calli (va_runV (As := []) (rest := []) ⟨hx, hb, hml, hown, hts⟩ (met_X5_word l G hM  hC hwr hn9 hn6 (show s9.1 ≤ n9 by omega)) (cwV 0 hts (lw_V q2954 q2956 qs85 q106 q2957) rfl rfl rfl (by decide +kernel) ⟨Nat.le_of_ble_eq_true rfl, Nat.le_of_ble_eq_true rfl⟩) (hv_preV hw pk_X5 hM.1) rfl rfl hl.1 rfl (lv_room (Nat.le_of_ble_eq_true rfl)) dX5_readsCommand_1 ⟨Nat.le_of_ble_eq_true rfl, Nat.le_of_ble_eq_true rfl⟩) hw hF (fun hh H locs hM hF hw => ?_)
  have hM : isMod G hh o ma (m_ts σ (t_word (σ.2 10) n9 s9).1) := hM
  obtain ⟨f, hfw⟩ : ∃ f, f = (t_word (σ.2 10) n9 s9).2 := ⟨_, rfl⟩
  refine lv_tope (y := nI f) (congrArg nI hfw.symm) ?_
  obtain ⟨q1, hq1⟩ : ∃ q1, q1 = (t_word (σ.2 10) n9 s9).1 := ⟨_, rfl⟩
  have hs1 : q1.1 ≤ n9 := by rw [hq1]; exact t_word_le hs9
  have hM : isMod G hh o ma (m_ts σ q1) := by rw [hq1]; exact hM
  have hf8 : f < 8 := by rw [hfw]; exact t_word_8
  rcases (show f = 0 ∨ f = 1 ∨ f = 2 ∨ f = 3 ∨ f = 4 ∨ f = 5 ∨ f = 6 ∨ f = 7 by omega) with rfl | rfl | rfl | rfl | rfl | rfl | rfl | rfl
  · skip
    refine lv_tope (y := 0) rfl ?_
    refine lv_istore_n (lv' := [(1, .int 0), (0, .ref o)]) hx hb dX5_readsCommand_4 rfl hl (by decide) rfl (fun ls hl => ?_)
    refine lv_aload_n hx hb dX5_readsCommand_5 rfl (lv_at hl 1 rfl) ?_
    refine mo_get hx hb hts hown hw hM 22 (by decide) q2576 rfl (v := .ref (ma 22)) rfl dX5_readsCommand_6 ?_
    refine lv_aload_n hx hb dX5_readsCommand_9 rfl (lv_at hl 1 rfl) ?_
    refine mo_get hx hb hts hown hw hM 21 (by decide) q2575 rfl (v := .int ((m_ts σ q1).1 21)) rfl dX5_readsCommand_10 ?_
    refine lv_tope (y := nI t9) ((m_ts_gk (by decide) (by decide)).trans ht) ?_
    refine lv_iload_n hx hb dX5_readsCommand_13 rfl (lv_at hl 0 rfl) ?_
    refine mo_ast hx hb hw hM hF 22 rfl (j := t9) rfl (show t9 < 16 by omega) dX5_readsCommand_14 (fun hh H locs hM hF hw => ?_)
    have hM : isMod G hh o ma (m_ts (mo_sa σ 22 t9 0) q1) := hM
    refine lv_iload_n hx hb dX5_readsCommand_15 rfl (lv_at hl 0 rfl) ?_
    refine lv_bipush (v := 7) hx hb dX5_readsCommand_16 (by decide) ?_
    refine lv_icmp_ge (tgt := 48) hx hb dX5_readsCommand_18 (by decide) (fun c => absurd c (by decide)) (fun _ => ?_)
    refine lv_aload_n hx hb dX5_readsCommand_21 rfl (lv_at hl 1 rfl) ?_
    refine mo_get hx hb hts hown hw hM 23 (by decide) q2577 rfl (v := .ref (ma 23)) rfl dX5_readsCommand_22 ?_
    refine lv_iconst (v := 4) hx hb dX5_readsCommand_25 (by decide) ?_
    refine lv_aload_n hx hb dX5_readsCommand_26 rfl (lv_at hl 1 rfl) ?_
    refine mo_get hx hb hts hown hw hM 21 (by decide) q2575 rfl (v := .int ((m_ts (mo_sa σ 22 t9 0) q1).1 21)) rfl dX5_readsCommand_27 ?_
    refine lv_tope (y := nI t9) ((m_ts_gk (by decide) (by decide)).trans ht) ?_
    refine lv_imul hx hb dX5_readsCommand_30 ?_
    refine lv_tope (y := nI (4 * t9)) (by simp only [nI, Int32.ofNat_add, Int32.ofNat_mul] <;> rfl) ?_
    refine lv_aload_n hx hb dX5_readsCommand_31 rfl (lv_at hl 1 rfl) ?_
    refine lv_bipush (v := 32) hx hb dX5_readsCommand_32 (by decide) ?_
    refine lv_iload_n hx hb dX5_readsCommand_34 rfl (lv_at hl 0 rfl) ?_
    refine lv_iconst (v := 3) hx hb dX5_readsCommand_35 (by decide) ?_
    refine lv_icmp_ne (tgt := 43) hx hb dX5_readsCommand_36 (by decide) (fun _ => ?_) (fun c => absurd c (by decide))
    refine lv_iconst (v := 1) hx hb dX5_readsCommand_43 (by decide) ?_
    have hs_2 : (t_num (σ.2 10) n9 q1 32 1).1.1 ≤ n9 := t_num_le (by decide) hs1
    refine mo_calli (va_runV (As := [.int 32, .int 1]) (rest := [.int (nI (4 * t9)), .ref (ma 23)]) ⟨hx, hb, hml, hown, hts⟩ (met_X5_number l G hM 32 1 (by decide) (by decide) hn9 hn6 hs1) (cwV 2 hts (lw_V q2963 q2965 qs86 q106 q2966) rfl rfl rfl (by decide +kernel) ⟨Nat.le_of_ble_eq_true rfl, Nat.le_of_ble_eq_true rfl⟩) (hv_preV hw pk_X5 hM.1) rfl rfl hl.1 rfl (lv_room (Nat.le_of_ble_eq_true rfl)) dX5_readsCommand_44 ⟨Nat.le_of_ble_eq_true rfl, Nat.le_of_ble_eq_true rfl⟩) hw hF (fun hh H locs hM hF hw => ?_)
    have hM : isMod G hh o ma (m_ts (mo_sa σ 22 t9 0) (t_num (σ.2 10) n9 q1 32 1).1) := hM
    refine lv_tope (y := (t_n1 (σ.2 10) n9 q1 0).2) (rfl) ?_
    have hM : isMod G hh o ma (m_ts (mo_sa σ 22 t9 0) (t_n1 (σ.2 10) n9 q1 0).1) := hM
    have t_n1h : (t_n1 (σ.2 10) n9 q1 0).1.1 ≤ n9 := t_n1_le hs1
    refine mo_ast hx hb hw hM hF 23 rfl (j := (4 * t9)) rfl (show 4 * t9 < 64 by omega) dX5_readsCommand_47 (fun hh H locs hM hF hw => ?_)
    have hM : isMod G hh o ma (m_ts (mo_sa (mo_sa σ 22 t9 0) 23 (4 * t9) ((t_n1 (σ.2 10) n9 q1 0).2)) (t_n1 (σ.2 10) n9 q1 0).1) := hM
    refine lv_iload_n hx hb dX5_readsCommand_48 rfl (lv_at hl 0 rfl) ?_
    refine lv_bipush (v := 6) hx hb dX5_readsCommand_49 (by decide) ?_
    refine lv_icmp_ge (tgt := 98) hx hb dX5_readsCommand_51 (by decide) (fun c => absurd c (by decide)) (fun _ => ?_)
    refine lv_aload_n hx hb dX5_readsCommand_54 rfl (lv_at hl 1 rfl) ?_
    refine mo_get hx hb hts hown hw hM 23 (by decide) q2577 rfl (v := .ref (ma 23)) rfl dX5_readsCommand_55 ?_
    refine lv_iconst (v := 4) hx hb dX5_readsCommand_58 (by decide) ?_
    refine lv_aload_n hx hb dX5_readsCommand_59 rfl (lv_at hl 1 rfl) ?_
    refine mo_get hx hb hts hown hw hM 21 (by decide) q2575 rfl (v := .int ((m_ts (mo_sa (mo_sa σ 22 t9 0) 23 (4 * t9) ((t_n1 (σ.2 10) n9 q1 0).2)) (t_n1 (σ.2 10) n9 q1 0).1).1 21)) rfl dX5_readsCommand_60 ?_
    refine lv_tope (y := nI t9) ((m_ts_gk (by decide) (by decide)).trans ht) ?_
    refine lv_imul hx hb dX5_readsCommand_63 ?_
    refine lv_tope (y := nI (4 * t9)) (by simp only [nI, Int32.ofNat_add, Int32.ofNat_mul] <;> rfl) ?_
    refine lv_iconst (v := 1) hx hb dX5_readsCommand_64 (by decide) ?_
    refine lv_iadd hx hb dX5_readsCommand_65 ?_
    refine lv_tope (y := nI (4 * t9 + 1)) (by simp only [nI, Int32.ofNat_add, Int32.ofNat_mul] <;> rfl) ?_
    refine lv_aload_n hx hb dX5_readsCommand_66 rfl (lv_at hl 1 rfl) ?_
    refine lv_iload_n hx hb dX5_readsCommand_67 rfl (lv_at hl 0 rfl) ?_
    refine lv_iconst (v := 2) hx hb dX5_readsCommand_68 (by decide) ?_
    refine lv_icmp_le (tgt := 77) hx hb dX5_readsCommand_69 (by decide) (fun _ => ?_) (fun c => absurd c (by decide))
    refine lv_bipush (v := 32) hx hb dX5_readsCommand_77 (by decide) ?_
    refine lv_iload_n hx hb dX5_readsCommand_79 rfl (lv_at hl 0 rfl) ?_
    refine lv_iconst (v := 1) hx hb dX5_readsCommand_80 (by decide) ?_
    refine lv_icmp_eq (tgt := 89) hx hb dX5_readsCommand_81 (by decide) (fun c => absurd c (by decide)) (fun _ => ?_)
    refine lv_iload_n hx hb dX5_readsCommand_84 rfl (lv_at hl 0 rfl) ?_
    refine lv_iconst (v := 2) hx hb dX5_readsCommand_85 (by decide) ?_
    refine lv_icmp_ne (tgt := 93) hx hb dX5_readsCommand_86 (by decide) (fun _ => ?_) (fun c => absurd c (by decide))
    refine lv_iconst (v := 4) hx hb dX5_readsCommand_93 (by decide) ?_
    have hs_3 : (t_num (σ.2 10) n9 ((t_n1 (σ.2 10) n9 q1 0).1) 32 4).1.1 ≤ n9 := t_num_le (by decide) t_n1h
    refine mo_calli (va_runV (As := [.int 32, .int 4]) (rest := [.int (nI (4 * t9 + 1)), .ref (ma 23)]) ⟨hx, hb, hml, hown, hts⟩ (met_X5_number l G hM 32 4 (by decide) (by decide) hn9 hn6 t_n1h) (cwV 2 hts (lw_V q2963 q2965 qs86 q106 q2966) rfl rfl rfl (by decide +kernel) ⟨Nat.le_of_ble_eq_true rfl, Nat.le_of_ble_eq_true rfl⟩) (hv_preV hw pk_X5 hM.1) rfl rfl hl.1 rfl (lv_room (Nat.le_of_ble_eq_true rfl)) dX5_readsCommand_94 ⟨Nat.le_of_ble_eq_true rfl, Nat.le_of_ble_eq_true rfl⟩) hw hF (fun hh H locs hM hF hw => ?_)
    have hM : isMod G hh o ma (m_ts (mo_sa (mo_sa σ 22 t9 0) 23 (4 * t9) ((t_n1 (σ.2 10) n9 q1 0).2)) (t_num (σ.2 10) n9 ((t_n1 (σ.2 10) n9 q1 0).1) 32 4).1) := hM
    refine lv_tope (y := (t_n2 (σ.2 10) n9 q1 0).2) (rfl) ?_
    have hM : isMod G hh o ma (m_ts (mo_sa (mo_sa σ 22 t9 0) 23 (4 * t9) ((t_n1 (σ.2 10) n9 q1 0).2)) (t_n2 (σ.2 10) n9 q1 0).1) := hM
    have t_n2h : (t_n2 (σ.2 10) n9 q1 0).1.1 ≤ n9 := t_n2_le hs1
    refine mo_ast hx hb hw hM hF 23 rfl (j := (4 * t9 + 1)) rfl (show 4 * t9 + 1 < 64 by omega) dX5_readsCommand_97 (fun hh H locs hM hF hw => ?_)
    have hM : isMod G hh o ma (m_ts (mo_sa (mo_sa (mo_sa σ 22 t9 0) 23 (4 * t9) ((t_n1 (σ.2 10) n9 q1 0).2)) 23 (4 * t9 + 1) ((t_n2 (σ.2 10) n9 q1 0).2)) (t_n2 (σ.2 10) n9 q1 0).1) := hM
    refine lv_iload_n hx hb dX5_readsCommand_98 rfl (lv_at hl 0 rfl) ?_
    refine lv_iconst (v := 1) hx hb dX5_readsCommand_99 (by decide) ?_
    refine lv_icmp_ne (tgt := 186) hx hb dX5_readsCommand_100 (by decide) (fun _ => ?_) (fun c => absurd c (by decide))
    refine lv_aload_n hx hb dX5_readsCommand_186 rfl (lv_at hl 1 rfl) ?_
    refine lv_dup hx hb dX5_readsCommand_187 rfl ?_
    refine mo_get hx hb hts hown hw hM 21 (by decide) q2575 rfl (v := .int ((m_ts (mo_sa (mo_sa (mo_sa σ 22 t9 0) 23 (4 * t9) ((t_n1 (σ.2 10) n9 q1 0).2)) 23 (4 * t9 + 1) ((t_n2 (σ.2 10) n9 q1 0).2)) (t_n2 (σ.2 10) n9 q1 0).1).1 21)) rfl dX5_readsCommand_188 ?_
    refine lv_tope (y := nI t9) ((m_ts_gk (by decide) (by decide)).trans ht) ?_
    refine lv_iconst (v := 1) hx hb dX5_readsCommand_191 (by decide) ?_
    refine lv_iadd hx hb dX5_readsCommand_192 ?_
    refine lv_tope (y := nI (t9 + 1)) (by simp only [nI, Int32.ofNat_add, Int32.ofNat_mul] <;> rfl) ?_
    refine mo_put hx hb hts hown hw hM hF 21 (by decide) rfl q2575 rfl rfl rfl rfl dX5_readsCommand_193 (fun hh H locs hM hF hw => ?_)
    rw [m_ts_k (by decide) (by decide)] at hM
    have hcm : t_cmd (σ.2 10) n9 s9 = ((t_n2 (σ.2 10) n9 q1 0).1, (0, (t_n1 (σ.2 10) n9 q1 0).2, (t_n2 (σ.2 10) n9 q1 0).2, 0, 0)) := by rw [t_cmd_eq, ← hfw, ← hq1]; exact t_arg_o (by decide) (by decide) (by decide)
    have hmc : m_cmd σ t9 (0, (t_n1 (σ.2 10) n9 q1 0).2, (t_n2 (σ.2 10) n9 q1 0).2, 0, 0) (mo_st (mo_sa (mo_sa (mo_sa σ 22 t9 0) 23 (4 * t9) ((t_n1 (σ.2 10) n9 q1 0).2)) 23 (4 * t9 + 1) ((t_n2 (σ.2 10) n9 q1 0).2)) 21 (nI (t9 + 1))) := m_cmd_o (by decide)
    exact hret hw ⟨_, m_cmd_fin hcm hmc, hM, hF⟩ (Nat.le_of_ble_eq_true rfl) (Nat.le_of_ble_eq_true rfl) dX5_readsCommand_196
  · skip
    refine lv_tope (y := 1) rfl ?_
    refine lv_istore_n (lv' := [(1, .int 1), (0, .ref o)]) hx hb dX5_readsCommand_4 rfl hl (by decide) rfl (fun ls hl => ?_)
    refine lv_aload_n hx hb dX5_readsCommand_5 rfl (lv_at hl 1 rfl) ?_
    refine mo_get hx hb hts hown hw hM 22 (by decide) q2576 rfl (v := .ref (ma 22)) rfl dX5_readsCommand_6 ?_
    refine lv_aload_n hx hb dX5_readsCommand_9 rfl (lv_at hl 1 rfl) ?_
    refine mo_get hx hb hts hown hw hM 21 (by decide) q2575 rfl (v := .int ((m_ts σ q1).1 21)) rfl dX5_readsCommand_10 ?_
    refine lv_tope (y := nI t9) ((m_ts_gk (by decide) (by decide)).trans ht) ?_
    refine lv_iload_n hx hb dX5_readsCommand_13 rfl (lv_at hl 0 rfl) ?_
    refine mo_ast hx hb hw hM hF 22 rfl (j := t9) rfl (show t9 < 16 by omega) dX5_readsCommand_14 (fun hh H locs hM hF hw => ?_)
    have hM : isMod G hh o ma (m_ts (mo_sa σ 22 t9 1) q1) := hM
    refine lv_iload_n hx hb dX5_readsCommand_15 rfl (lv_at hl 0 rfl) ?_
    refine lv_bipush (v := 7) hx hb dX5_readsCommand_16 (by decide) ?_
    refine lv_icmp_ge (tgt := 48) hx hb dX5_readsCommand_18 (by decide) (fun c => absurd c (by decide)) (fun _ => ?_)
    refine lv_aload_n hx hb dX5_readsCommand_21 rfl (lv_at hl 1 rfl) ?_
    refine mo_get hx hb hts hown hw hM 23 (by decide) q2577 rfl (v := .ref (ma 23)) rfl dX5_readsCommand_22 ?_
    refine lv_iconst (v := 4) hx hb dX5_readsCommand_25 (by decide) ?_
    refine lv_aload_n hx hb dX5_readsCommand_26 rfl (lv_at hl 1 rfl) ?_
    refine mo_get hx hb hts hown hw hM 21 (by decide) q2575 rfl (v := .int ((m_ts (mo_sa σ 22 t9 1) q1).1 21)) rfl dX5_readsCommand_27 ?_
    refine lv_tope (y := nI t9) ((m_ts_gk (by decide) (by decide)).trans ht) ?_
    refine lv_imul hx hb dX5_readsCommand_30 ?_
    refine lv_tope (y := nI (4 * t9)) (by simp only [nI, Int32.ofNat_add, Int32.ofNat_mul] <;> rfl) ?_
    refine lv_aload_n hx hb dX5_readsCommand_31 rfl (lv_at hl 1 rfl) ?_
    refine lv_bipush (v := 32) hx hb dX5_readsCommand_32 (by decide) ?_
    refine lv_iload_n hx hb dX5_readsCommand_34 rfl (lv_at hl 0 rfl) ?_
    refine lv_iconst (v := 3) hx hb dX5_readsCommand_35 (by decide) ?_
    refine lv_icmp_ne (tgt := 43) hx hb dX5_readsCommand_36 (by decide) (fun _ => ?_) (fun c => absurd c (by decide))
    refine lv_iconst (v := 1) hx hb dX5_readsCommand_43 (by decide) ?_
    have hs_4 : (t_num (σ.2 10) n9 q1 32 1).1.1 ≤ n9 := t_num_le (by decide) hs1
    refine mo_calli (va_runV (As := [.int 32, .int 1]) (rest := [.int (nI (4 * t9)), .ref (ma 23)]) ⟨hx, hb, hml, hown, hts⟩ (met_X5_number l G hM 32 1 (by decide) (by decide) hn9 hn6 hs1) (cwV 2 hts (lw_V q2963 q2965 qs86 q106 q2966) rfl rfl rfl (by decide +kernel) ⟨Nat.le_of_ble_eq_true rfl, Nat.le_of_ble_eq_true rfl⟩) (hv_preV hw pk_X5 hM.1) rfl rfl hl.1 rfl (lv_room (Nat.le_of_ble_eq_true rfl)) dX5_readsCommand_44 ⟨Nat.le_of_ble_eq_true rfl, Nat.le_of_ble_eq_true rfl⟩) hw hF (fun hh H locs hM hF hw => ?_)
    have hM : isMod G hh o ma (m_ts (mo_sa σ 22 t9 1) (t_num (σ.2 10) n9 q1 32 1).1) := hM
    refine lv_tope (y := (t_n1 (σ.2 10) n9 q1 1).2) (rfl) ?_
    have hM : isMod G hh o ma (m_ts (mo_sa σ 22 t9 1) (t_n1 (σ.2 10) n9 q1 1).1) := hM
    have t_n1h : (t_n1 (σ.2 10) n9 q1 1).1.1 ≤ n9 := t_n1_le hs1
    refine mo_ast hx hb hw hM hF 23 rfl (j := (4 * t9)) rfl (show 4 * t9 < 64 by omega) dX5_readsCommand_47 (fun hh H locs hM hF hw => ?_)
    have hM : isMod G hh o ma (m_ts (mo_sa (mo_sa σ 22 t9 1) 23 (4 * t9) ((t_n1 (σ.2 10) n9 q1 1).2)) (t_n1 (σ.2 10) n9 q1 1).1) := hM
    refine lv_iload_n hx hb dX5_readsCommand_48 rfl (lv_at hl 0 rfl) ?_
    refine lv_bipush (v := 6) hx hb dX5_readsCommand_49 (by decide) ?_
    refine lv_icmp_ge (tgt := 98) hx hb dX5_readsCommand_51 (by decide) (fun c => absurd c (by decide)) (fun _ => ?_)
    refine lv_aload_n hx hb dX5_readsCommand_54 rfl (lv_at hl 1 rfl) ?_
    refine mo_get hx hb hts hown hw hM 23 (by decide) q2577 rfl (v := .ref (ma 23)) rfl dX5_readsCommand_55 ?_
    refine lv_iconst (v := 4) hx hb dX5_readsCommand_58 (by decide) ?_
    refine lv_aload_n hx hb dX5_readsCommand_59 rfl (lv_at hl 1 rfl) ?_
    refine mo_get hx hb hts hown hw hM 21 (by decide) q2575 rfl (v := .int ((m_ts (mo_sa (mo_sa σ 22 t9 1) 23 (4 * t9) ((t_n1 (σ.2 10) n9 q1 1).2)) (t_n1 (σ.2 10) n9 q1 1).1).1 21)) rfl dX5_readsCommand_60 ?_
    refine lv_tope (y := nI t9) ((m_ts_gk (by decide) (by decide)).trans ht) ?_
    refine lv_imul hx hb dX5_readsCommand_63 ?_
    refine lv_tope (y := nI (4 * t9)) (by simp only [nI, Int32.ofNat_add, Int32.ofNat_mul] <;> rfl) ?_
    refine lv_iconst (v := 1) hx hb dX5_readsCommand_64 (by decide) ?_
    refine lv_iadd hx hb dX5_readsCommand_65 ?_
    refine lv_tope (y := nI (4 * t9 + 1)) (by simp only [nI, Int32.ofNat_add, Int32.ofNat_mul] <;> rfl) ?_
    refine lv_aload_n hx hb dX5_readsCommand_66 rfl (lv_at hl 1 rfl) ?_
    refine lv_iload_n hx hb dX5_readsCommand_67 rfl (lv_at hl 0 rfl) ?_
    refine lv_iconst (v := 2) hx hb dX5_readsCommand_68 (by decide) ?_
    refine lv_icmp_le (tgt := 77) hx hb dX5_readsCommand_69 (by decide) (fun _ => ?_) (fun c => absurd c (by decide))
    refine lv_bipush (v := 32) hx hb dX5_readsCommand_77 (by decide) ?_
    refine lv_iload_n hx hb dX5_readsCommand_79 rfl (lv_at hl 0 rfl) ?_
    refine lv_iconst (v := 1) hx hb dX5_readsCommand_80 (by decide) ?_
    refine lv_icmp_eq (tgt := 89) hx hb dX5_readsCommand_81 (by decide) (fun _ => ?_) (fun c => absurd c (by decide))
    refine lv_iconst (v := 1) hx hb dX5_readsCommand_89 (by decide) ?_
    refine lv_goto (tgt := 94) hx hb dX5_readsCommand_90 (by decide) ?_
    have hs_5 : (t_num (σ.2 10) n9 ((t_n1 (σ.2 10) n9 q1 1).1) 32 1).1.1 ≤ n9 := t_num_le (by decide) t_n1h
    refine mo_calli (va_runV (As := [.int 32, .int 1]) (rest := [.int (nI (4 * t9 + 1)), .ref (ma 23)]) ⟨hx, hb, hml, hown, hts⟩ (met_X5_number l G hM 32 1 (by decide) (by decide) hn9 hn6 t_n1h) (cwV 2 hts (lw_V q2963 q2965 qs86 q106 q2966) rfl rfl rfl (by decide +kernel) ⟨Nat.le_of_ble_eq_true rfl, Nat.le_of_ble_eq_true rfl⟩) (hv_preV hw pk_X5 hM.1) rfl rfl hl.1 rfl (lv_room (Nat.le_of_ble_eq_true rfl)) dX5_readsCommand_94 ⟨Nat.le_of_ble_eq_true rfl, Nat.le_of_ble_eq_true rfl⟩) hw hF (fun hh H locs hM hF hw => ?_)
    have hM : isMod G hh o ma (m_ts (mo_sa (mo_sa σ 22 t9 1) 23 (4 * t9) ((t_n1 (σ.2 10) n9 q1 1).2)) (t_num (σ.2 10) n9 ((t_n1 (σ.2 10) n9 q1 1).1) 32 1).1) := hM
    refine lv_tope (y := (t_n2 (σ.2 10) n9 q1 1).2) (rfl) ?_
    have hM : isMod G hh o ma (m_ts (mo_sa (mo_sa σ 22 t9 1) 23 (4 * t9) ((t_n1 (σ.2 10) n9 q1 1).2)) (t_n2 (σ.2 10) n9 q1 1).1) := hM
    have t_n2h : (t_n2 (σ.2 10) n9 q1 1).1.1 ≤ n9 := t_n2_le hs1
    refine mo_ast hx hb hw hM hF 23 rfl (j := (4 * t9 + 1)) rfl (show 4 * t9 + 1 < 64 by omega) dX5_readsCommand_97 (fun hh H locs hM hF hw => ?_)
    have hM : isMod G hh o ma (m_ts (mo_sa (mo_sa (mo_sa σ 22 t9 1) 23 (4 * t9) ((t_n1 (σ.2 10) n9 q1 1).2)) 23 (4 * t9 + 1) ((t_n2 (σ.2 10) n9 q1 1).2)) (t_n2 (σ.2 10) n9 q1 1).1) := hM
    refine lv_iload_n hx hb dX5_readsCommand_98 rfl (lv_at hl 0 rfl) ?_
    refine lv_iconst (v := 1) hx hb dX5_readsCommand_99 (by decide) ?_
    refine lv_icmp_ne (tgt := 186) hx hb dX5_readsCommand_100 (by decide) (fun c => absurd c (by decide)) (fun _ => ?_)
    refine lv_aload_n hx hb dX5_readsCommand_103 rfl (lv_at hl 1 rfl) ?_
    refine mo_get hx hb hts hown hw hM 23 (by decide) q2577 rfl (v := .ref (ma 23)) rfl dX5_readsCommand_104 ?_
    refine lv_iconst (v := 4) hx hb dX5_readsCommand_107 (by decide) ?_
    refine lv_aload_n hx hb dX5_readsCommand_108 rfl (lv_at hl 1 rfl) ?_
    refine mo_get hx hb hts hown hw hM 21 (by decide) q2575 rfl (v := .int ((m_ts (mo_sa (mo_sa (mo_sa σ 22 t9 1) 23 (4 * t9) ((t_n1 (σ.2 10) n9 q1 1).2)) 23 (4 * t9 + 1) ((t_n2 (σ.2 10) n9 q1 1).2)) (t_n2 (σ.2 10) n9 q1 1).1).1 21)) rfl dX5_readsCommand_109 ?_
    refine lv_tope (y := nI t9) ((m_ts_gk (by decide) (by decide)).trans ht) ?_
    refine lv_imul hx hb dX5_readsCommand_112 ?_
    refine lv_tope (y := nI (4 * t9)) (by simp only [nI, Int32.ofNat_add, Int32.ofNat_mul] <;> rfl) ?_
    refine lv_iconst (v := 2) hx hb dX5_readsCommand_113 (by decide) ?_
    refine lv_iadd hx hb dX5_readsCommand_114 ?_
    refine lv_tope (y := nI (4 * t9 + 2)) (by simp only [nI, Int32.ofNat_add, Int32.ofNat_mul] <;> rfl) ?_
    refine lv_aload_n hx hb dX5_readsCommand_115 rfl (lv_at hl 1 rfl) ?_
    refine lv_bipush (v := 32) hx hb dX5_readsCommand_116 (by decide) ?_
    refine lv_iconst (v := 4) hx hb dX5_readsCommand_118 (by decide) ?_
    have hs_6 : (t_num (σ.2 10) n9 ((t_n2 (σ.2 10) n9 q1 1).1) 32 4).1.1 ≤ n9 := t_num_le (by decide) t_n2h
    refine mo_calli (va_runV (As := [.int 32, .int 4]) (rest := [.int (nI (4 * t9 + 2)), .ref (ma 23)]) ⟨hx, hb, hml, hown, hts⟩ (met_X5_number l G hM 32 4 (by decide) (by decide) hn9 hn6 t_n2h) (cwV 2 hts (lw_V q2963 q2965 qs86 q106 q2966) rfl rfl rfl (by decide +kernel) ⟨Nat.le_of_ble_eq_true rfl, Nat.le_of_ble_eq_true rfl⟩) (hv_preV hw pk_X5 hM.1) rfl rfl hl.1 rfl (lv_room (Nat.le_of_ble_eq_true rfl)) dX5_readsCommand_119 ⟨Nat.le_of_ble_eq_true rfl, Nat.le_of_ble_eq_true rfl⟩) hw hF (fun hh H locs hM hF hw => ?_)
    have hM : isMod G hh o ma (m_ts (mo_sa (mo_sa (mo_sa σ 22 t9 1) 23 (4 * t9) ((t_n1 (σ.2 10) n9 q1 1).2)) 23 (4 * t9 + 1) ((t_n2 (σ.2 10) n9 q1 1).2)) (t_num (σ.2 10) n9 ((t_n2 (σ.2 10) n9 q1 1).1) 32 4).1) := hM
    refine lv_tope (y := (t_n3 (σ.2 10) n9 q1 1).2) (rfl) ?_
    have hM : isMod G hh o ma (m_ts (mo_sa (mo_sa (mo_sa σ 22 t9 1) 23 (4 * t9) ((t_n1 (σ.2 10) n9 q1 1).2)) 23 (4 * t9 + 1) ((t_n2 (σ.2 10) n9 q1 1).2)) (t_n3 (σ.2 10) n9 q1 1).1) := hM
    have t_n3h : (t_n3 (σ.2 10) n9 q1 1).1.1 ≤ n9 := t_n3_le hs1
    refine mo_ast hx hb hw hM hF 23 rfl (j := (4 * t9 + 2)) rfl (show 4 * t9 + 2 < 64 by omega) dX5_readsCommand_122 (fun hh H locs hM hF hw => ?_)
    have hM : isMod G hh o ma (m_ts (mo_sa (mo_sa (mo_sa (mo_sa σ 22 t9 1) 23 (4 * t9) ((t_n1 (σ.2 10) n9 q1 1).2)) 23 (4 * t9 + 1) ((t_n2 (σ.2 10) n9 q1 1).2)) 23 (4 * t9 + 2) ((t_n3 (σ.2 10) n9 q1 1).2)) (t_n3 (σ.2 10) n9 q1 1).1) := hM
    refine lv_aload_n hx hb dX5_readsCommand_123 rfl (lv_at hl 1 rfl) ?_
    refine mo_get hx hb hts hown hw hM 20 (by decide) q2574 rfl (v := .int ((m_ts (mo_sa (mo_sa (mo_sa (mo_sa σ 22 t9 1) 23 (4 * t9) ((t_n1 (σ.2 10) n9 q1 1).2)) 23 (4 * t9 + 1) ((t_n2 (σ.2 10) n9 q1 1).2)) 23 (4 * t9 + 2) ((t_n3 (σ.2 10) n9 q1 1).2)) (t_n3 (σ.2 10) n9 q1 1).1).1 20)) rfl dX5_readsCommand_124 ?_
    refine lv_tope (y := ((t_n3 (σ.2 10) n9 q1 1).1).2) (m_ts_g20) ?_
    refine lv_iconst (v := (-1)) hx hb dX5_readsCommand_127 (by decide) ?_
    refine lv_icmp_ne (tgt := 144) hx hb dX5_readsCommand_128 (by decide) (fun c128 => ?_) (fun c128 => ?_)
    · skip
      refine lv_iconst (v := 0) hx hb dX5_readsCommand_144 (by decide) ?_
      refine lv_tope (y := (t_pl (σ.2 10) n9 (t_n3 (σ.2 10) n9 q1 1).1).2) (t_pl_0 c128) ?_
      refine lv_istore_n (lv' := [(2, .int ((t_pl (σ.2 10) n9 (t_n3 (σ.2 10) n9 q1 1).1).2)), (1, .int 1), (0, .ref o)]) hx hb dX5_readsCommand_145 rfl hl (by decide) rfl (fun ls hl => ?_)
      refine lv_aload_n hx hb dX5_readsCommand_146 rfl (lv_at hl 2 rfl) ?_
      refine mo_get hx hb hts hown hw hM 23 (by decide) q2577 rfl (v := .ref (ma 23)) rfl dX5_readsCommand_147 ?_
      refine lv_iconst (v := 4) hx hb dX5_readsCommand_150 (by decide) ?_
      refine lv_aload_n hx hb dX5_readsCommand_151 rfl (lv_at hl 2 rfl) ?_
      refine mo_get hx hb hts hown hw hM 21 (by decide) q2575 rfl (v := .int ((m_ts (mo_sa (mo_sa (mo_sa (mo_sa σ 22 t9 1) 23 (4 * t9) ((t_n1 (σ.2 10) n9 q1 1).2)) 23 (4 * t9 + 1) ((t_n2 (σ.2 10) n9 q1 1).2)) 23 (4 * t9 + 2) ((t_n3 (σ.2 10) n9 q1 1).2)) (t_n3 (σ.2 10) n9 q1 1).1).1 21)) rfl dX5_readsCommand_152 ?_
      refine lv_tope (y := nI t9) ((m_ts_gk (by decide) (by decide)).trans ht) ?_
      refine lv_imul hx hb dX5_readsCommand_155 ?_
      refine lv_tope (y := nI (4 * t9)) (by simp only [nI, Int32.ofNat_add, Int32.ofNat_mul] <;> rfl) ?_
      refine lv_iconst (v := 3) hx hb dX5_readsCommand_156 (by decide) ?_
      refine lv_iadd hx hb dX5_readsCommand_157 ?_
      refine lv_tope (y := nI (4 * t9 + 3)) (by simp only [nI, Int32.ofNat_add, Int32.ofNat_mul] <;> rfl) ?_
      refine lv_iload_n hx hb dX5_readsCommand_158 rfl (lv_at hl 0 rfl) ?_
      refine lv_mat0 (P := ((t_pl (σ.2 10) n9 (t_n3 (σ.2 10) n9 q1 1).1).2) = 0) (j := 167) (fun k1 k2 => lv_if_eq (tgt := 166) hx hb dX5_readsCommand_159 (by decide) (fun c => lv_iconst (v := 0) hx hb dX5_readsCommand_166 (by decide) (k1 c)) (fun c => lv_iconst (v := 1) hx hb dX5_readsCommand_162 (by decide) (lv_goto (tgt := 167) hx hb dX5_readsCommand_163 (by decide) (k2 c)))) ?_
      refine lv_tope (y := (t_pl (σ.2 10) n9 (t_n3 (σ.2 10) n9 q1 1).1).2) (t_pl_b) ?_
      refine mo_ast hx hb hw hM hF 23 rfl (j := (4 * t9 + 3)) rfl (show 4 * t9 + 3 < 64 by omega) dX5_readsCommand_167 (fun hh H locs hM hF hw => ?_)
      have hM : isMod G hh o ma (m_ts (mo_sa (mo_sa (mo_sa (mo_sa (mo_sa σ 22 t9 1) 23 (4 * t9) ((t_n1 (σ.2 10) n9 q1 1).2)) 23 (4 * t9 + 1) ((t_n2 (σ.2 10) n9 q1 1).2)) 23 (4 * t9 + 2) ((t_n3 (σ.2 10) n9 q1 1).2)) 23 (4 * t9 + 3) ((t_pl (σ.2 10) n9 (t_n3 (σ.2 10) n9 q1 1).1).2)) (t_n3 (σ.2 10) n9 q1 1).1) := hM
      refine lv_aload_n hx hb dX5_readsCommand_168 rfl (lv_at hl 2 rfl) ?_
      refine lv_dup hx hb dX5_readsCommand_169 rfl ?_
      refine mo_get hx hb hts hown hw hM 19 (by decide) q2573 rfl (v := .int ((m_ts (mo_sa (mo_sa (mo_sa (mo_sa (mo_sa σ 22 t9 1) 23 (4 * t9) ((t_n1 (σ.2 10) n9 q1 1).2)) 23 (4 * t9 + 1) ((t_n2 (σ.2 10) n9 q1 1).2)) 23 (4 * t9 + 2) ((t_n3 (σ.2 10) n9 q1 1).2)) 23 (4 * t9 + 3) ((t_pl (σ.2 10) n9 (t_n3 (σ.2 10) n9 q1 1).1).2)) (t_n3 (σ.2 10) n9 q1 1).1).1 19)) rfl dX5_readsCommand_170 ?_
      refine lv_tope (y := nI (((t_n3 (σ.2 10) n9 q1 1).1).1)) (m_ts_g19) ?_
      refine lv_iload_n hx hb dX5_readsCommand_173 rfl (lv_at hl 0 rfl) ?_
      refine lv_mat0 (P := ((t_pl (σ.2 10) n9 (t_n3 (σ.2 10) n9 q1 1).1).2) = 0) (j := 182) (fun k1 k2 => lv_if_eq (tgt := 181) hx hb dX5_readsCommand_174 (by decide) (fun c => lv_iconst (v := 0) hx hb dX5_readsCommand_181 (by decide) (k1 c)) (fun c => lv_iconst (v := 1) hx hb dX5_readsCommand_177 (by decide) (lv_goto (tgt := 182) hx hb dX5_readsCommand_178 (by decide) (k2 c)))) ?_
      refine lv_iadd hx hb dX5_readsCommand_182 ?_
      refine lv_tope (y := nI (t_pl (σ.2 10) n9 (t_n3 (σ.2 10) n9 q1 1).1).1.1) (t_pl_at) ?_
      refine mo_put hx hb hts hown hw hM hF 19 (by decide) rfl q2573 rfl rfl rfl rfl dX5_readsCommand_183 (fun hh H locs hM hF hw => ?_)
      rw [m_ts_19] at hM
      have hM : isMod G hh o ma (m_ts (mo_sa (mo_sa (mo_sa (mo_sa (mo_sa σ 22 t9 1) 23 (4 * t9) ((t_n1 (σ.2 10) n9 q1 1).2)) 23 (4 * t9 + 1) ((t_n2 (σ.2 10) n9 q1 1).2)) 23 (4 * t9 + 2) ((t_n3 (σ.2 10) n9 q1 1).2)) 23 (4 * t9 + 3) ((t_pl (σ.2 10) n9 (t_n3 (σ.2 10) n9 q1 1).1).2)) ((t_pl (σ.2 10) n9 (t_n3 (σ.2 10) n9 q1 1).1).1.1, ((t_n3 (σ.2 10) n9 q1 1).1).2)) := hM
      have hM : isMod G hh o ma (m_ts (mo_sa (mo_sa (mo_sa (mo_sa (mo_sa σ 22 t9 1) 23 (4 * t9) ((t_n1 (σ.2 10) n9 q1 1).2)) 23 (4 * t9 + 1) ((t_n2 (σ.2 10) n9 q1 1).2)) 23 (4 * t9 + 2) ((t_n3 (σ.2 10) n9 q1 1).2)) 23 (4 * t9 + 3) ((t_pl (σ.2 10) n9 (t_n3 (σ.2 10) n9 q1 1).1).2)) (t_n4 (σ.2 10) n9 q1 1).1) := by have h9 := hM; rw [show ((t_pl (σ.2 10) n9 (t_n3 (σ.2 10) n9 q1 1).1).1.1, (t_n3 (σ.2 10) n9 q1 1).1.2) = (t_pl (σ.2 10) n9 (t_n3 (σ.2 10) n9 q1 1).1).1 from t_pl_e.symm] at h9; exact h9
      refine lv_aload_n hx hb dX5_readsCommand_186 rfl (lv_at hl 2 rfl) ?_
      refine lv_dup hx hb dX5_readsCommand_187 rfl ?_
      refine mo_get hx hb hts hown hw hM 21 (by decide) q2575 rfl (v := .int ((m_ts (mo_sa (mo_sa (mo_sa (mo_sa (mo_sa σ 22 t9 1) 23 (4 * t9) ((t_n1 (σ.2 10) n9 q1 1).2)) 23 (4 * t9 + 1) ((t_n2 (σ.2 10) n9 q1 1).2)) 23 (4 * t9 + 2) ((t_n3 (σ.2 10) n9 q1 1).2)) 23 (4 * t9 + 3) ((t_pl (σ.2 10) n9 (t_n3 (σ.2 10) n9 q1 1).1).2)) (t_n4 (σ.2 10) n9 q1 1).1).1 21)) rfl dX5_readsCommand_188 ?_
      refine lv_tope (y := nI t9) ((m_ts_gk (by decide) (by decide)).trans ht) ?_
      refine lv_iconst (v := 1) hx hb dX5_readsCommand_191 (by decide) ?_
      refine lv_iadd hx hb dX5_readsCommand_192 ?_
      refine lv_tope (y := nI (t9 + 1)) (by simp only [nI, Int32.ofNat_add, Int32.ofNat_mul] <;> rfl) ?_
      refine mo_put hx hb hts hown hw hM hF 21 (by decide) rfl q2575 rfl rfl rfl rfl dX5_readsCommand_193 (fun hh H locs hM hF hw => ?_)
      rw [m_ts_k (by decide) (by decide)] at hM
      have hcm : t_cmd (σ.2 10) n9 s9 = ((t_n4 (σ.2 10) n9 q1 1).1, (1, (t_n1 (σ.2 10) n9 q1 1).2, (t_n2 (σ.2 10) n9 q1 1).2, (t_n3 (σ.2 10) n9 q1 1).2, (t_n4 (σ.2 10) n9 q1 1).2)) := by rw [t_cmd_eq, ← hfw, ← hq1]; exact t_arg_1
      have hmc : m_cmd σ t9 (1, (t_n1 (σ.2 10) n9 q1 1).2, (t_n2 (σ.2 10) n9 q1 1).2, (t_n3 (σ.2 10) n9 q1 1).2, (t_n4 (σ.2 10) n9 q1 1).2) (mo_st (mo_sa (mo_sa (mo_sa (mo_sa (mo_sa σ 22 t9 1) 23 (4 * t9) ((t_n1 (σ.2 10) n9 q1 1).2)) 23 (4 * t9 + 1) ((t_n2 (σ.2 10) n9 q1 1).2)) 23 (4 * t9 + 2) ((t_n3 (σ.2 10) n9 q1 1).2)) 23 (4 * t9 + 3) ((t_pl (σ.2 10) n9 (t_n3 (σ.2 10) n9 q1 1).1).2)) 21 (nI (t9 + 1))) := m_cmd_1
      exact hret hw ⟨_, m_cmd_fin hcm hmc, hM, hF⟩ (Nat.le_of_ble_eq_true rfl) (Nat.le_of_ble_eq_true rfl) dX5_readsCommand_196
    · skip
      refine lv_aload_n hx hb dX5_readsCommand_131 rfl (lv_at hl 1 rfl) ?_
      refine hv_callir (va_runV (As := []) (rest := []) ⟨hx, hb, hml, hown, hts⟩ (met_X5_sign l G hM   hn9 hn6 t_n3h) (cwV 0 hts (lw_V q2971 q2973 qs88 q106 q2974) rfl rfl rfl (by decide +kernel) ⟨Nat.le_of_ble_eq_true rfl, Nat.le_of_ble_eq_true rfl⟩) (hv_preV hw pk_X5 hM.1) rfl rfl hl.1 rfl (lv_room (Nat.le_of_ble_eq_true rfl)) dX5_readsCommand_132 ⟨Nat.le_of_ble_eq_true rfl, Nat.le_of_ble_eq_true rfl⟩) hw (fun H locs hw => ?_)
      refine lv_bipush (v := 43) hx hb dX5_readsCommand_135 (by decide) ?_
      refine lv_mat1 (P := (t_sg (σ.2 10) n9 ((t_n3 (σ.2 10) n9 q1 1).1).1) = 43) (j := 145) (fun k1 k2 => lv_icmp_ne (tgt := 144) hx hb dX5_readsCommand_137 (by decide) (fun c => lv_iconst (v := 0) hx hb dX5_readsCommand_144 (by decide) (k2 c)) (fun c => lv_iconst (v := 1) hx hb dX5_readsCommand_140 (by decide) (lv_goto (tgt := 145) hx hb dX5_readsCommand_141 (by decide) (k1 c)))) ?_
      refine lv_tope (y := (t_pl (σ.2 10) n9 (t_n3 (σ.2 10) n9 q1 1).1).2) (t_pl_1 c128) ?_
      refine lv_istore_n (lv' := [(2, .int ((t_pl (σ.2 10) n9 (t_n3 (σ.2 10) n9 q1 1).1).2)), (1, .int 1), (0, .ref o)]) hx hb dX5_readsCommand_145 rfl hl (by decide) rfl (fun ls hl => ?_)
      refine lv_aload_n hx hb dX5_readsCommand_146 rfl (lv_at hl 2 rfl) ?_
      refine mo_get hx hb hts hown hw hM 23 (by decide) q2577 rfl (v := .ref (ma 23)) rfl dX5_readsCommand_147 ?_
      refine lv_iconst (v := 4) hx hb dX5_readsCommand_150 (by decide) ?_
      refine lv_aload_n hx hb dX5_readsCommand_151 rfl (lv_at hl 2 rfl) ?_
      refine mo_get hx hb hts hown hw hM 21 (by decide) q2575 rfl (v := .int ((m_ts (mo_sa (mo_sa (mo_sa (mo_sa σ 22 t9 1) 23 (4 * t9) ((t_n1 (σ.2 10) n9 q1 1).2)) 23 (4 * t9 + 1) ((t_n2 (σ.2 10) n9 q1 1).2)) 23 (4 * t9 + 2) ((t_n3 (σ.2 10) n9 q1 1).2)) (t_n3 (σ.2 10) n9 q1 1).1).1 21)) rfl dX5_readsCommand_152 ?_
      refine lv_tope (y := nI t9) ((m_ts_gk (by decide) (by decide)).trans ht) ?_
      refine lv_imul hx hb dX5_readsCommand_155 ?_
      refine lv_tope (y := nI (4 * t9)) (by simp only [nI, Int32.ofNat_add, Int32.ofNat_mul] <;> rfl) ?_
      refine lv_iconst (v := 3) hx hb dX5_readsCommand_156 (by decide) ?_
      refine lv_iadd hx hb dX5_readsCommand_157 ?_
      refine lv_tope (y := nI (4 * t9 + 3)) (by simp only [nI, Int32.ofNat_add, Int32.ofNat_mul] <;> rfl) ?_
      refine lv_iload_n hx hb dX5_readsCommand_158 rfl (lv_at hl 0 rfl) ?_
      refine lv_mat0 (P := ((t_pl (σ.2 10) n9 (t_n3 (σ.2 10) n9 q1 1).1).2) = 0) (j := 167) (fun k1 k2 => lv_if_eq (tgt := 166) hx hb dX5_readsCommand_159 (by decide) (fun c => lv_iconst (v := 0) hx hb dX5_readsCommand_166 (by decide) (k1 c)) (fun c => lv_iconst (v := 1) hx hb dX5_readsCommand_162 (by decide) (lv_goto (tgt := 167) hx hb dX5_readsCommand_163 (by decide) (k2 c)))) ?_
      refine lv_tope (y := (t_pl (σ.2 10) n9 (t_n3 (σ.2 10) n9 q1 1).1).2) (t_pl_b) ?_
      refine mo_ast hx hb hw hM hF 23 rfl (j := (4 * t9 + 3)) rfl (show 4 * t9 + 3 < 64 by omega) dX5_readsCommand_167 (fun hh H locs hM hF hw => ?_)
      have hM : isMod G hh o ma (m_ts (mo_sa (mo_sa (mo_sa (mo_sa (mo_sa σ 22 t9 1) 23 (4 * t9) ((t_n1 (σ.2 10) n9 q1 1).2)) 23 (4 * t9 + 1) ((t_n2 (σ.2 10) n9 q1 1).2)) 23 (4 * t9 + 2) ((t_n3 (σ.2 10) n9 q1 1).2)) 23 (4 * t9 + 3) ((t_pl (σ.2 10) n9 (t_n3 (σ.2 10) n9 q1 1).1).2)) (t_n3 (σ.2 10) n9 q1 1).1) := hM
      refine lv_aload_n hx hb dX5_readsCommand_168 rfl (lv_at hl 2 rfl) ?_
      refine lv_dup hx hb dX5_readsCommand_169 rfl ?_
      refine mo_get hx hb hts hown hw hM 19 (by decide) q2573 rfl (v := .int ((m_ts (mo_sa (mo_sa (mo_sa (mo_sa (mo_sa σ 22 t9 1) 23 (4 * t9) ((t_n1 (σ.2 10) n9 q1 1).2)) 23 (4 * t9 + 1) ((t_n2 (σ.2 10) n9 q1 1).2)) 23 (4 * t9 + 2) ((t_n3 (σ.2 10) n9 q1 1).2)) 23 (4 * t9 + 3) ((t_pl (σ.2 10) n9 (t_n3 (σ.2 10) n9 q1 1).1).2)) (t_n3 (σ.2 10) n9 q1 1).1).1 19)) rfl dX5_readsCommand_170 ?_
      refine lv_tope (y := nI (((t_n3 (σ.2 10) n9 q1 1).1).1)) (m_ts_g19) ?_
      refine lv_iload_n hx hb dX5_readsCommand_173 rfl (lv_at hl 0 rfl) ?_
      refine lv_mat0 (P := ((t_pl (σ.2 10) n9 (t_n3 (σ.2 10) n9 q1 1).1).2) = 0) (j := 182) (fun k1 k2 => lv_if_eq (tgt := 181) hx hb dX5_readsCommand_174 (by decide) (fun c => lv_iconst (v := 0) hx hb dX5_readsCommand_181 (by decide) (k1 c)) (fun c => lv_iconst (v := 1) hx hb dX5_readsCommand_177 (by decide) (lv_goto (tgt := 182) hx hb dX5_readsCommand_178 (by decide) (k2 c)))) ?_
      refine lv_iadd hx hb dX5_readsCommand_182 ?_
      refine lv_tope (y := nI (t_pl (σ.2 10) n9 (t_n3 (σ.2 10) n9 q1 1).1).1.1) (t_pl_at) ?_
      refine mo_put hx hb hts hown hw hM hF 19 (by decide) rfl q2573 rfl rfl rfl rfl dX5_readsCommand_183 (fun hh H locs hM hF hw => ?_)
      rw [m_ts_19] at hM
      have hM : isMod G hh o ma (m_ts (mo_sa (mo_sa (mo_sa (mo_sa (mo_sa σ 22 t9 1) 23 (4 * t9) ((t_n1 (σ.2 10) n9 q1 1).2)) 23 (4 * t9 + 1) ((t_n2 (σ.2 10) n9 q1 1).2)) 23 (4 * t9 + 2) ((t_n3 (σ.2 10) n9 q1 1).2)) 23 (4 * t9 + 3) ((t_pl (σ.2 10) n9 (t_n3 (σ.2 10) n9 q1 1).1).2)) ((t_pl (σ.2 10) n9 (t_n3 (σ.2 10) n9 q1 1).1).1.1, ((t_n3 (σ.2 10) n9 q1 1).1).2)) := hM
      have hM : isMod G hh o ma (m_ts (mo_sa (mo_sa (mo_sa (mo_sa (mo_sa σ 22 t9 1) 23 (4 * t9) ((t_n1 (σ.2 10) n9 q1 1).2)) 23 (4 * t9 + 1) ((t_n2 (σ.2 10) n9 q1 1).2)) 23 (4 * t9 + 2) ((t_n3 (σ.2 10) n9 q1 1).2)) 23 (4 * t9 + 3) ((t_pl (σ.2 10) n9 (t_n3 (σ.2 10) n9 q1 1).1).2)) (t_n4 (σ.2 10) n9 q1 1).1) := by have h9 := hM; rw [show ((t_pl (σ.2 10) n9 (t_n3 (σ.2 10) n9 q1 1).1).1.1, (t_n3 (σ.2 10) n9 q1 1).1.2) = (t_pl (σ.2 10) n9 (t_n3 (σ.2 10) n9 q1 1).1).1 from t_pl_e.symm] at h9; exact h9
      refine lv_aload_n hx hb dX5_readsCommand_186 rfl (lv_at hl 2 rfl) ?_
      refine lv_dup hx hb dX5_readsCommand_187 rfl ?_
      refine mo_get hx hb hts hown hw hM 21 (by decide) q2575 rfl (v := .int ((m_ts (mo_sa (mo_sa (mo_sa (mo_sa (mo_sa σ 22 t9 1) 23 (4 * t9) ((t_n1 (σ.2 10) n9 q1 1).2)) 23 (4 * t9 + 1) ((t_n2 (σ.2 10) n9 q1 1).2)) 23 (4 * t9 + 2) ((t_n3 (σ.2 10) n9 q1 1).2)) 23 (4 * t9 + 3) ((t_pl (σ.2 10) n9 (t_n3 (σ.2 10) n9 q1 1).1).2)) (t_n4 (σ.2 10) n9 q1 1).1).1 21)) rfl dX5_readsCommand_188 ?_
      refine lv_tope (y := nI t9) ((m_ts_gk (by decide) (by decide)).trans ht) ?_
      refine lv_iconst (v := 1) hx hb dX5_readsCommand_191 (by decide) ?_
      refine lv_iadd hx hb dX5_readsCommand_192 ?_
      refine lv_tope (y := nI (t9 + 1)) (by simp only [nI, Int32.ofNat_add, Int32.ofNat_mul] <;> rfl) ?_
      refine mo_put hx hb hts hown hw hM hF 21 (by decide) rfl q2575 rfl rfl rfl rfl dX5_readsCommand_193 (fun hh H locs hM hF hw => ?_)
      rw [m_ts_k (by decide) (by decide)] at hM
      have hcm : t_cmd (σ.2 10) n9 s9 = ((t_n4 (σ.2 10) n9 q1 1).1, (1, (t_n1 (σ.2 10) n9 q1 1).2, (t_n2 (σ.2 10) n9 q1 1).2, (t_n3 (σ.2 10) n9 q1 1).2, (t_n4 (σ.2 10) n9 q1 1).2)) := by rw [t_cmd_eq, ← hfw, ← hq1]; exact t_arg_1
      have hmc : m_cmd σ t9 (1, (t_n1 (σ.2 10) n9 q1 1).2, (t_n2 (σ.2 10) n9 q1 1).2, (t_n3 (σ.2 10) n9 q1 1).2, (t_n4 (σ.2 10) n9 q1 1).2) (mo_st (mo_sa (mo_sa (mo_sa (mo_sa (mo_sa σ 22 t9 1) 23 (4 * t9) ((t_n1 (σ.2 10) n9 q1 1).2)) 23 (4 * t9 + 1) ((t_n2 (σ.2 10) n9 q1 1).2)) 23 (4 * t9 + 2) ((t_n3 (σ.2 10) n9 q1 1).2)) 23 (4 * t9 + 3) ((t_pl (σ.2 10) n9 (t_n3 (σ.2 10) n9 q1 1).1).2)) 21 (nI (t9 + 1))) := m_cmd_1
      exact hret hw ⟨_, m_cmd_fin hcm hmc, hM, hF⟩ (Nat.le_of_ble_eq_true rfl) (Nat.le_of_ble_eq_true rfl) dX5_readsCommand_196
  · skip
    refine lv_tope (y := 2) rfl ?_
    refine lv_istore_n (lv' := [(1, .int 2), (0, .ref o)]) hx hb dX5_readsCommand_4 rfl hl (by decide) rfl (fun ls hl => ?_)
    refine lv_aload_n hx hb dX5_readsCommand_5 rfl (lv_at hl 1 rfl) ?_
    refine mo_get hx hb hts hown hw hM 22 (by decide) q2576 rfl (v := .ref (ma 22)) rfl dX5_readsCommand_6 ?_
    refine lv_aload_n hx hb dX5_readsCommand_9 rfl (lv_at hl 1 rfl) ?_
    refine mo_get hx hb hts hown hw hM 21 (by decide) q2575 rfl (v := .int ((m_ts σ q1).1 21)) rfl dX5_readsCommand_10 ?_
    refine lv_tope (y := nI t9) ((m_ts_gk (by decide) (by decide)).trans ht) ?_
    refine lv_iload_n hx hb dX5_readsCommand_13 rfl (lv_at hl 0 rfl) ?_
    refine mo_ast hx hb hw hM hF 22 rfl (j := t9) rfl (show t9 < 16 by omega) dX5_readsCommand_14 (fun hh H locs hM hF hw => ?_)
    have hM : isMod G hh o ma (m_ts (mo_sa σ 22 t9 2) q1) := hM
    refine lv_iload_n hx hb dX5_readsCommand_15 rfl (lv_at hl 0 rfl) ?_
    refine lv_bipush (v := 7) hx hb dX5_readsCommand_16 (by decide) ?_
    refine lv_icmp_ge (tgt := 48) hx hb dX5_readsCommand_18 (by decide) (fun c => absurd c (by decide)) (fun _ => ?_)
    refine lv_aload_n hx hb dX5_readsCommand_21 rfl (lv_at hl 1 rfl) ?_
    refine mo_get hx hb hts hown hw hM 23 (by decide) q2577 rfl (v := .ref (ma 23)) rfl dX5_readsCommand_22 ?_
    refine lv_iconst (v := 4) hx hb dX5_readsCommand_25 (by decide) ?_
    refine lv_aload_n hx hb dX5_readsCommand_26 rfl (lv_at hl 1 rfl) ?_
    refine mo_get hx hb hts hown hw hM 21 (by decide) q2575 rfl (v := .int ((m_ts (mo_sa σ 22 t9 2) q1).1 21)) rfl dX5_readsCommand_27 ?_
    refine lv_tope (y := nI t9) ((m_ts_gk (by decide) (by decide)).trans ht) ?_
    refine lv_imul hx hb dX5_readsCommand_30 ?_
    refine lv_tope (y := nI (4 * t9)) (by simp only [nI, Int32.ofNat_add, Int32.ofNat_mul] <;> rfl) ?_
    refine lv_aload_n hx hb dX5_readsCommand_31 rfl (lv_at hl 1 rfl) ?_
    refine lv_bipush (v := 32) hx hb dX5_readsCommand_32 (by decide) ?_
    refine lv_iload_n hx hb dX5_readsCommand_34 rfl (lv_at hl 0 rfl) ?_
    refine lv_iconst (v := 3) hx hb dX5_readsCommand_35 (by decide) ?_
    refine lv_icmp_ne (tgt := 43) hx hb dX5_readsCommand_36 (by decide) (fun _ => ?_) (fun c => absurd c (by decide))
    refine lv_iconst (v := 1) hx hb dX5_readsCommand_43 (by decide) ?_
    have hs_7 : (t_num (σ.2 10) n9 q1 32 1).1.1 ≤ n9 := t_num_le (by decide) hs1
    refine mo_calli (va_runV (As := [.int 32, .int 1]) (rest := [.int (nI (4 * t9)), .ref (ma 23)]) ⟨hx, hb, hml, hown, hts⟩ (met_X5_number l G hM 32 1 (by decide) (by decide) hn9 hn6 hs1) (cwV 2 hts (lw_V q2963 q2965 qs86 q106 q2966) rfl rfl rfl (by decide +kernel) ⟨Nat.le_of_ble_eq_true rfl, Nat.le_of_ble_eq_true rfl⟩) (hv_preV hw pk_X5 hM.1) rfl rfl hl.1 rfl (lv_room (Nat.le_of_ble_eq_true rfl)) dX5_readsCommand_44 ⟨Nat.le_of_ble_eq_true rfl, Nat.le_of_ble_eq_true rfl⟩) hw hF (fun hh H locs hM hF hw => ?_)
    have hM : isMod G hh o ma (m_ts (mo_sa σ 22 t9 2) (t_num (σ.2 10) n9 q1 32 1).1) := hM
    refine lv_tope (y := (t_n1 (σ.2 10) n9 q1 2).2) (rfl) ?_
    have hM : isMod G hh o ma (m_ts (mo_sa σ 22 t9 2) (t_n1 (σ.2 10) n9 q1 2).1) := hM
    have t_n1h : (t_n1 (σ.2 10) n9 q1 2).1.1 ≤ n9 := t_n1_le hs1
    refine mo_ast hx hb hw hM hF 23 rfl (j := (4 * t9)) rfl (show 4 * t9 < 64 by omega) dX5_readsCommand_47 (fun hh H locs hM hF hw => ?_)
    have hM : isMod G hh o ma (m_ts (mo_sa (mo_sa σ 22 t9 2) 23 (4 * t9) ((t_n1 (σ.2 10) n9 q1 2).2)) (t_n1 (σ.2 10) n9 q1 2).1) := hM
    refine lv_iload_n hx hb dX5_readsCommand_48 rfl (lv_at hl 0 rfl) ?_
    refine lv_bipush (v := 6) hx hb dX5_readsCommand_49 (by decide) ?_
    refine lv_icmp_ge (tgt := 98) hx hb dX5_readsCommand_51 (by decide) (fun c => absurd c (by decide)) (fun _ => ?_)
    refine lv_aload_n hx hb dX5_readsCommand_54 rfl (lv_at hl 1 rfl) ?_
    refine mo_get hx hb hts hown hw hM 23 (by decide) q2577 rfl (v := .ref (ma 23)) rfl dX5_readsCommand_55 ?_
    refine lv_iconst (v := 4) hx hb dX5_readsCommand_58 (by decide) ?_
    refine lv_aload_n hx hb dX5_readsCommand_59 rfl (lv_at hl 1 rfl) ?_
    refine mo_get hx hb hts hown hw hM 21 (by decide) q2575 rfl (v := .int ((m_ts (mo_sa (mo_sa σ 22 t9 2) 23 (4 * t9) ((t_n1 (σ.2 10) n9 q1 2).2)) (t_n1 (σ.2 10) n9 q1 2).1).1 21)) rfl dX5_readsCommand_60 ?_
    refine lv_tope (y := nI t9) ((m_ts_gk (by decide) (by decide)).trans ht) ?_
    refine lv_imul hx hb dX5_readsCommand_63 ?_
    refine lv_tope (y := nI (4 * t9)) (by simp only [nI, Int32.ofNat_add, Int32.ofNat_mul] <;> rfl) ?_
    refine lv_iconst (v := 1) hx hb dX5_readsCommand_64 (by decide) ?_
    refine lv_iadd hx hb dX5_readsCommand_65 ?_
    refine lv_tope (y := nI (4 * t9 + 1)) (by simp only [nI, Int32.ofNat_add, Int32.ofNat_mul] <;> rfl) ?_
    refine lv_aload_n hx hb dX5_readsCommand_66 rfl (lv_at hl 1 rfl) ?_
    refine lv_iload_n hx hb dX5_readsCommand_67 rfl (lv_at hl 0 rfl) ?_
    refine lv_iconst (v := 2) hx hb dX5_readsCommand_68 (by decide) ?_
    refine lv_icmp_le (tgt := 77) hx hb dX5_readsCommand_69 (by decide) (fun _ => ?_) (fun c => absurd c (by decide))
    refine lv_bipush (v := 32) hx hb dX5_readsCommand_77 (by decide) ?_
    refine lv_iload_n hx hb dX5_readsCommand_79 rfl (lv_at hl 0 rfl) ?_
    refine lv_iconst (v := 1) hx hb dX5_readsCommand_80 (by decide) ?_
    refine lv_icmp_eq (tgt := 89) hx hb dX5_readsCommand_81 (by decide) (fun c => absurd c (by decide)) (fun _ => ?_)
    refine lv_iload_n hx hb dX5_readsCommand_84 rfl (lv_at hl 0 rfl) ?_
    refine lv_iconst (v := 2) hx hb dX5_readsCommand_85 (by decide) ?_
    refine lv_icmp_ne (tgt := 93) hx hb dX5_readsCommand_86 (by decide) (fun c => absurd c (by decide)) (fun _ => ?_)
    refine lv_iconst (v := 1) hx hb dX5_readsCommand_89 (by decide) ?_
    refine lv_goto (tgt := 94) hx hb dX5_readsCommand_90 (by decide) ?_
    have hs_8 : (t_num (σ.2 10) n9 ((t_n1 (σ.2 10) n9 q1 2).1) 32 1).1.1 ≤ n9 := t_num_le (by decide) t_n1h
    refine mo_calli (va_runV (As := [.int 32, .int 1]) (rest := [.int (nI (4 * t9 + 1)), .ref (ma 23)]) ⟨hx, hb, hml, hown, hts⟩ (met_X5_number l G hM 32 1 (by decide) (by decide) hn9 hn6 t_n1h) (cwV 2 hts (lw_V q2963 q2965 qs86 q106 q2966) rfl rfl rfl (by decide +kernel) ⟨Nat.le_of_ble_eq_true rfl, Nat.le_of_ble_eq_true rfl⟩) (hv_preV hw pk_X5 hM.1) rfl rfl hl.1 rfl (lv_room (Nat.le_of_ble_eq_true rfl)) dX5_readsCommand_94 ⟨Nat.le_of_ble_eq_true rfl, Nat.le_of_ble_eq_true rfl⟩) hw hF (fun hh H locs hM hF hw => ?_)
    have hM : isMod G hh o ma (m_ts (mo_sa (mo_sa σ 22 t9 2) 23 (4 * t9) ((t_n1 (σ.2 10) n9 q1 2).2)) (t_num (σ.2 10) n9 ((t_n1 (σ.2 10) n9 q1 2).1) 32 1).1) := hM
    refine lv_tope (y := (t_n2 (σ.2 10) n9 q1 2).2) (rfl) ?_
    have hM : isMod G hh o ma (m_ts (mo_sa (mo_sa σ 22 t9 2) 23 (4 * t9) ((t_n1 (σ.2 10) n9 q1 2).2)) (t_n2 (σ.2 10) n9 q1 2).1) := hM
    have t_n2h : (t_n2 (σ.2 10) n9 q1 2).1.1 ≤ n9 := t_n2_le hs1
    refine mo_ast hx hb hw hM hF 23 rfl (j := (4 * t9 + 1)) rfl (show 4 * t9 + 1 < 64 by omega) dX5_readsCommand_97 (fun hh H locs hM hF hw => ?_)
    have hM : isMod G hh o ma (m_ts (mo_sa (mo_sa (mo_sa σ 22 t9 2) 23 (4 * t9) ((t_n1 (σ.2 10) n9 q1 2).2)) 23 (4 * t9 + 1) ((t_n2 (σ.2 10) n9 q1 2).2)) (t_n2 (σ.2 10) n9 q1 2).1) := hM
    refine lv_iload_n hx hb dX5_readsCommand_98 rfl (lv_at hl 0 rfl) ?_
    refine lv_iconst (v := 1) hx hb dX5_readsCommand_99 (by decide) ?_
    refine lv_icmp_ne (tgt := 186) hx hb dX5_readsCommand_100 (by decide) (fun _ => ?_) (fun c => absurd c (by decide))
    refine lv_aload_n hx hb dX5_readsCommand_186 rfl (lv_at hl 1 rfl) ?_
    refine lv_dup hx hb dX5_readsCommand_187 rfl ?_
    refine mo_get hx hb hts hown hw hM 21 (by decide) q2575 rfl (v := .int ((m_ts (mo_sa (mo_sa (mo_sa σ 22 t9 2) 23 (4 * t9) ((t_n1 (σ.2 10) n9 q1 2).2)) 23 (4 * t9 + 1) ((t_n2 (σ.2 10) n9 q1 2).2)) (t_n2 (σ.2 10) n9 q1 2).1).1 21)) rfl dX5_readsCommand_188 ?_
    refine lv_tope (y := nI t9) ((m_ts_gk (by decide) (by decide)).trans ht) ?_
    refine lv_iconst (v := 1) hx hb dX5_readsCommand_191 (by decide) ?_
    refine lv_iadd hx hb dX5_readsCommand_192 ?_
    refine lv_tope (y := nI (t9 + 1)) (by simp only [nI, Int32.ofNat_add, Int32.ofNat_mul] <;> rfl) ?_
    refine mo_put hx hb hts hown hw hM hF 21 (by decide) rfl q2575 rfl rfl rfl rfl dX5_readsCommand_193 (fun hh H locs hM hF hw => ?_)
    rw [m_ts_k (by decide) (by decide)] at hM
    have hcm : t_cmd (σ.2 10) n9 s9 = ((t_n2 (σ.2 10) n9 q1 2).1, (2, (t_n1 (σ.2 10) n9 q1 2).2, (t_n2 (σ.2 10) n9 q1 2).2, 0, 0)) := by rw [t_cmd_eq, ← hfw, ← hq1]; exact t_arg_o (by decide) (by decide) (by decide)
    have hmc : m_cmd σ t9 (2, (t_n1 (σ.2 10) n9 q1 2).2, (t_n2 (σ.2 10) n9 q1 2).2, 0, 0) (mo_st (mo_sa (mo_sa (mo_sa σ 22 t9 2) 23 (4 * t9) ((t_n1 (σ.2 10) n9 q1 2).2)) 23 (4 * t9 + 1) ((t_n2 (σ.2 10) n9 q1 2).2)) 21 (nI (t9 + 1))) := m_cmd_o (by decide)
    exact hret hw ⟨_, m_cmd_fin hcm hmc, hM, hF⟩ (Nat.le_of_ble_eq_true rfl) (Nat.le_of_ble_eq_true rfl) dX5_readsCommand_196
  · skip
    refine lv_tope (y := 3) rfl ?_
    refine lv_istore_n (lv' := [(1, .int 3), (0, .ref o)]) hx hb dX5_readsCommand_4 rfl hl (by decide) rfl (fun ls hl => ?_)
    refine lv_aload_n hx hb dX5_readsCommand_5 rfl (lv_at hl 1 rfl) ?_
    refine mo_get hx hb hts hown hw hM 22 (by decide) q2576 rfl (v := .ref (ma 22)) rfl dX5_readsCommand_6 ?_
    refine lv_aload_n hx hb dX5_readsCommand_9 rfl (lv_at hl 1 rfl) ?_
    refine mo_get hx hb hts hown hw hM 21 (by decide) q2575 rfl (v := .int ((m_ts σ q1).1 21)) rfl dX5_readsCommand_10 ?_
    refine lv_tope (y := nI t9) ((m_ts_gk (by decide) (by decide)).trans ht) ?_
    refine lv_iload_n hx hb dX5_readsCommand_13 rfl (lv_at hl 0 rfl) ?_
    refine mo_ast hx hb hw hM hF 22 rfl (j := t9) rfl (show t9 < 16 by omega) dX5_readsCommand_14 (fun hh H locs hM hF hw => ?_)
    have hM : isMod G hh o ma (m_ts (mo_sa σ 22 t9 3) q1) := hM
    refine lv_iload_n hx hb dX5_readsCommand_15 rfl (lv_at hl 0 rfl) ?_
    refine lv_bipush (v := 7) hx hb dX5_readsCommand_16 (by decide) ?_
    refine lv_icmp_ge (tgt := 48) hx hb dX5_readsCommand_18 (by decide) (fun c => absurd c (by decide)) (fun _ => ?_)
    refine lv_aload_n hx hb dX5_readsCommand_21 rfl (lv_at hl 1 rfl) ?_
    refine mo_get hx hb hts hown hw hM 23 (by decide) q2577 rfl (v := .ref (ma 23)) rfl dX5_readsCommand_22 ?_
    refine lv_iconst (v := 4) hx hb dX5_readsCommand_25 (by decide) ?_
    refine lv_aload_n hx hb dX5_readsCommand_26 rfl (lv_at hl 1 rfl) ?_
    refine mo_get hx hb hts hown hw hM 21 (by decide) q2575 rfl (v := .int ((m_ts (mo_sa σ 22 t9 3) q1).1 21)) rfl dX5_readsCommand_27 ?_
    refine lv_tope (y := nI t9) ((m_ts_gk (by decide) (by decide)).trans ht) ?_
    refine lv_imul hx hb dX5_readsCommand_30 ?_
    refine lv_tope (y := nI (4 * t9)) (by simp only [nI, Int32.ofNat_add, Int32.ofNat_mul] <;> rfl) ?_
    refine lv_aload_n hx hb dX5_readsCommand_31 rfl (lv_at hl 1 rfl) ?_
    refine lv_bipush (v := 32) hx hb dX5_readsCommand_32 (by decide) ?_
    refine lv_iload_n hx hb dX5_readsCommand_34 rfl (lv_at hl 0 rfl) ?_
    refine lv_iconst (v := 3) hx hb dX5_readsCommand_35 (by decide) ?_
    refine lv_icmp_ne (tgt := 43) hx hb dX5_readsCommand_36 (by decide) (fun c => absurd c (by decide)) (fun _ => ?_)
    refine lv_iconst (v := 4) hx hb dX5_readsCommand_39 (by decide) ?_
    refine lv_goto (tgt := 44) hx hb dX5_readsCommand_40 (by decide) ?_
    have hs_9 : (t_num (σ.2 10) n9 q1 32 4).1.1 ≤ n9 := t_num_le (by decide) hs1
    refine mo_calli (va_runV (As := [.int 32, .int 4]) (rest := [.int (nI (4 * t9)), .ref (ma 23)]) ⟨hx, hb, hml, hown, hts⟩ (met_X5_number l G hM 32 4 (by decide) (by decide) hn9 hn6 hs1) (cwV 2 hts (lw_V q2963 q2965 qs86 q106 q2966) rfl rfl rfl (by decide +kernel) ⟨Nat.le_of_ble_eq_true rfl, Nat.le_of_ble_eq_true rfl⟩) (hv_preV hw pk_X5 hM.1) rfl rfl hl.1 rfl (lv_room (Nat.le_of_ble_eq_true rfl)) dX5_readsCommand_44 ⟨Nat.le_of_ble_eq_true rfl, Nat.le_of_ble_eq_true rfl⟩) hw hF (fun hh H locs hM hF hw => ?_)
    have hM : isMod G hh o ma (m_ts (mo_sa σ 22 t9 3) (t_num (σ.2 10) n9 q1 32 4).1) := hM
    refine lv_tope (y := (t_n1 (σ.2 10) n9 q1 3).2) (rfl) ?_
    have hM : isMod G hh o ma (m_ts (mo_sa σ 22 t9 3) (t_n1 (σ.2 10) n9 q1 3).1) := hM
    have t_n1h : (t_n1 (σ.2 10) n9 q1 3).1.1 ≤ n9 := t_n1_le hs1
    refine mo_ast hx hb hw hM hF 23 rfl (j := (4 * t9)) rfl (show 4 * t9 < 64 by omega) dX5_readsCommand_47 (fun hh H locs hM hF hw => ?_)
    have hM : isMod G hh o ma (m_ts (mo_sa (mo_sa σ 22 t9 3) 23 (4 * t9) ((t_n1 (σ.2 10) n9 q1 3).2)) (t_n1 (σ.2 10) n9 q1 3).1) := hM
    refine lv_iload_n hx hb dX5_readsCommand_48 rfl (lv_at hl 0 rfl) ?_
    refine lv_bipush (v := 6) hx hb dX5_readsCommand_49 (by decide) ?_
    refine lv_icmp_ge (tgt := 98) hx hb dX5_readsCommand_51 (by decide) (fun c => absurd c (by decide)) (fun _ => ?_)
    refine lv_aload_n hx hb dX5_readsCommand_54 rfl (lv_at hl 1 rfl) ?_
    refine mo_get hx hb hts hown hw hM 23 (by decide) q2577 rfl (v := .ref (ma 23)) rfl dX5_readsCommand_55 ?_
    refine lv_iconst (v := 4) hx hb dX5_readsCommand_58 (by decide) ?_
    refine lv_aload_n hx hb dX5_readsCommand_59 rfl (lv_at hl 1 rfl) ?_
    refine mo_get hx hb hts hown hw hM 21 (by decide) q2575 rfl (v := .int ((m_ts (mo_sa (mo_sa σ 22 t9 3) 23 (4 * t9) ((t_n1 (σ.2 10) n9 q1 3).2)) (t_n1 (σ.2 10) n9 q1 3).1).1 21)) rfl dX5_readsCommand_60 ?_
    refine lv_tope (y := nI t9) ((m_ts_gk (by decide) (by decide)).trans ht) ?_
    refine lv_imul hx hb dX5_readsCommand_63 ?_
    refine lv_tope (y := nI (4 * t9)) (by simp only [nI, Int32.ofNat_add, Int32.ofNat_mul] <;> rfl) ?_
    refine lv_iconst (v := 1) hx hb dX5_readsCommand_64 (by decide) ?_
    refine lv_iadd hx hb dX5_readsCommand_65 ?_
    refine lv_tope (y := nI (4 * t9 + 1)) (by simp only [nI, Int32.ofNat_add, Int32.ofNat_mul] <;> rfl) ?_
    refine lv_aload_n hx hb dX5_readsCommand_66 rfl (lv_at hl 1 rfl) ?_
    refine lv_iload_n hx hb dX5_readsCommand_67 rfl (lv_at hl 0 rfl) ?_
    refine lv_iconst (v := 2) hx hb dX5_readsCommand_68 (by decide) ?_
    refine lv_icmp_le (tgt := 77) hx hb dX5_readsCommand_69 (by decide) (fun c => absurd c (by decide)) (fun _ => ?_)
    refine lv_bipush (v := 61) hx hb dX5_readsCommand_72 (by decide) ?_
    refine lv_goto (tgt := 79) hx hb dX5_readsCommand_74 (by decide) ?_
    refine lv_iload_n hx hb dX5_readsCommand_79 rfl (lv_at hl 0 rfl) ?_
    refine lv_iconst (v := 1) hx hb dX5_readsCommand_80 (by decide) ?_
    refine lv_icmp_eq (tgt := 89) hx hb dX5_readsCommand_81 (by decide) (fun c => absurd c (by decide)) (fun _ => ?_)
    refine lv_iload_n hx hb dX5_readsCommand_84 rfl (lv_at hl 0 rfl) ?_
    refine lv_iconst (v := 2) hx hb dX5_readsCommand_85 (by decide) ?_
    refine lv_icmp_ne (tgt := 93) hx hb dX5_readsCommand_86 (by decide) (fun _ => ?_) (fun c => absurd c (by decide))
    refine lv_iconst (v := 4) hx hb dX5_readsCommand_93 (by decide) ?_
    have hs_10 : (t_num (σ.2 10) n9 ((t_n1 (σ.2 10) n9 q1 3).1) 61 4).1.1 ≤ n9 := t_num_le (by decide) t_n1h
    refine mo_calli (va_runV (As := [.int 61, .int 4]) (rest := [.int (nI (4 * t9 + 1)), .ref (ma 23)]) ⟨hx, hb, hml, hown, hts⟩ (met_X5_number l G hM 61 4 (by decide) (by decide) hn9 hn6 t_n1h) (cwV 2 hts (lw_V q2963 q2965 qs86 q106 q2966) rfl rfl rfl (by decide +kernel) ⟨Nat.le_of_ble_eq_true rfl, Nat.le_of_ble_eq_true rfl⟩) (hv_preV hw pk_X5 hM.1) rfl rfl hl.1 rfl (lv_room (Nat.le_of_ble_eq_true rfl)) dX5_readsCommand_94 ⟨Nat.le_of_ble_eq_true rfl, Nat.le_of_ble_eq_true rfl⟩) hw hF (fun hh H locs hM hF hw => ?_)
    have hM : isMod G hh o ma (m_ts (mo_sa (mo_sa σ 22 t9 3) 23 (4 * t9) ((t_n1 (σ.2 10) n9 q1 3).2)) (t_num (σ.2 10) n9 ((t_n1 (σ.2 10) n9 q1 3).1) 61 4).1) := hM
    refine lv_tope (y := (t_n2 (σ.2 10) n9 q1 3).2) (rfl) ?_
    have hM : isMod G hh o ma (m_ts (mo_sa (mo_sa σ 22 t9 3) 23 (4 * t9) ((t_n1 (σ.2 10) n9 q1 3).2)) (t_n2 (σ.2 10) n9 q1 3).1) := hM
    have t_n2h : (t_n2 (σ.2 10) n9 q1 3).1.1 ≤ n9 := t_n2_le hs1
    refine mo_ast hx hb hw hM hF 23 rfl (j := (4 * t9 + 1)) rfl (show 4 * t9 + 1 < 64 by omega) dX5_readsCommand_97 (fun hh H locs hM hF hw => ?_)
    have hM : isMod G hh o ma (m_ts (mo_sa (mo_sa (mo_sa σ 22 t9 3) 23 (4 * t9) ((t_n1 (σ.2 10) n9 q1 3).2)) 23 (4 * t9 + 1) ((t_n2 (σ.2 10) n9 q1 3).2)) (t_n2 (σ.2 10) n9 q1 3).1) := hM
    refine lv_iload_n hx hb dX5_readsCommand_98 rfl (lv_at hl 0 rfl) ?_
    refine lv_iconst (v := 1) hx hb dX5_readsCommand_99 (by decide) ?_
    refine lv_icmp_ne (tgt := 186) hx hb dX5_readsCommand_100 (by decide) (fun _ => ?_) (fun c => absurd c (by decide))
    refine lv_aload_n hx hb dX5_readsCommand_186 rfl (lv_at hl 1 rfl) ?_
    refine lv_dup hx hb dX5_readsCommand_187 rfl ?_
    refine mo_get hx hb hts hown hw hM 21 (by decide) q2575 rfl (v := .int ((m_ts (mo_sa (mo_sa (mo_sa σ 22 t9 3) 23 (4 * t9) ((t_n1 (σ.2 10) n9 q1 3).2)) 23 (4 * t9 + 1) ((t_n2 (σ.2 10) n9 q1 3).2)) (t_n2 (σ.2 10) n9 q1 3).1).1 21)) rfl dX5_readsCommand_188 ?_
    refine lv_tope (y := nI t9) ((m_ts_gk (by decide) (by decide)).trans ht) ?_
    refine lv_iconst (v := 1) hx hb dX5_readsCommand_191 (by decide) ?_
    refine lv_iadd hx hb dX5_readsCommand_192 ?_
    refine lv_tope (y := nI (t9 + 1)) (by simp only [nI, Int32.ofNat_add, Int32.ofNat_mul] <;> rfl) ?_
    refine mo_put hx hb hts hown hw hM hF 21 (by decide) rfl q2575 rfl rfl rfl rfl dX5_readsCommand_193 (fun hh H locs hM hF hw => ?_)
    rw [m_ts_k (by decide) (by decide)] at hM
    have hcm : t_cmd (σ.2 10) n9 s9 = ((t_n2 (σ.2 10) n9 q1 3).1, (3, (t_n1 (σ.2 10) n9 q1 3).2, (t_n2 (σ.2 10) n9 q1 3).2, 0, 0)) := by rw [t_cmd_eq, ← hfw, ← hq1]; exact t_arg_o (by decide) (by decide) (by decide)
    have hmc : m_cmd σ t9 (3, (t_n1 (σ.2 10) n9 q1 3).2, (t_n2 (σ.2 10) n9 q1 3).2, 0, 0) (mo_st (mo_sa (mo_sa (mo_sa σ 22 t9 3) 23 (4 * t9) ((t_n1 (σ.2 10) n9 q1 3).2)) 23 (4 * t9 + 1) ((t_n2 (σ.2 10) n9 q1 3).2)) 21 (nI (t9 + 1))) := m_cmd_o (by decide)
    exact hret hw ⟨_, m_cmd_fin hcm hmc, hM, hF⟩ (Nat.le_of_ble_eq_true rfl) (Nat.le_of_ble_eq_true rfl) dX5_readsCommand_196
  · skip
    refine lv_tope (y := 4) rfl ?_
    refine lv_istore_n (lv' := [(1, .int 4), (0, .ref o)]) hx hb dX5_readsCommand_4 rfl hl (by decide) rfl (fun ls hl => ?_)
    refine lv_aload_n hx hb dX5_readsCommand_5 rfl (lv_at hl 1 rfl) ?_
    refine mo_get hx hb hts hown hw hM 22 (by decide) q2576 rfl (v := .ref (ma 22)) rfl dX5_readsCommand_6 ?_
    refine lv_aload_n hx hb dX5_readsCommand_9 rfl (lv_at hl 1 rfl) ?_
    refine mo_get hx hb hts hown hw hM 21 (by decide) q2575 rfl (v := .int ((m_ts σ q1).1 21)) rfl dX5_readsCommand_10 ?_
    refine lv_tope (y := nI t9) ((m_ts_gk (by decide) (by decide)).trans ht) ?_
    refine lv_iload_n hx hb dX5_readsCommand_13 rfl (lv_at hl 0 rfl) ?_
    refine mo_ast hx hb hw hM hF 22 rfl (j := t9) rfl (show t9 < 16 by omega) dX5_readsCommand_14 (fun hh H locs hM hF hw => ?_)
    have hM : isMod G hh o ma (m_ts (mo_sa σ 22 t9 4) q1) := hM
    refine lv_iload_n hx hb dX5_readsCommand_15 rfl (lv_at hl 0 rfl) ?_
    refine lv_bipush (v := 7) hx hb dX5_readsCommand_16 (by decide) ?_
    refine lv_icmp_ge (tgt := 48) hx hb dX5_readsCommand_18 (by decide) (fun c => absurd c (by decide)) (fun _ => ?_)
    refine lv_aload_n hx hb dX5_readsCommand_21 rfl (lv_at hl 1 rfl) ?_
    refine mo_get hx hb hts hown hw hM 23 (by decide) q2577 rfl (v := .ref (ma 23)) rfl dX5_readsCommand_22 ?_
    refine lv_iconst (v := 4) hx hb dX5_readsCommand_25 (by decide) ?_
    refine lv_aload_n hx hb dX5_readsCommand_26 rfl (lv_at hl 1 rfl) ?_
    refine mo_get hx hb hts hown hw hM 21 (by decide) q2575 rfl (v := .int ((m_ts (mo_sa σ 22 t9 4) q1).1 21)) rfl dX5_readsCommand_27 ?_
    refine lv_tope (y := nI t9) ((m_ts_gk (by decide) (by decide)).trans ht) ?_
    refine lv_imul hx hb dX5_readsCommand_30 ?_
    refine lv_tope (y := nI (4 * t9)) (by simp only [nI, Int32.ofNat_add, Int32.ofNat_mul] <;> rfl) ?_
    refine lv_aload_n hx hb dX5_readsCommand_31 rfl (lv_at hl 1 rfl) ?_
    refine lv_bipush (v := 32) hx hb dX5_readsCommand_32 (by decide) ?_
    refine lv_iload_n hx hb dX5_readsCommand_34 rfl (lv_at hl 0 rfl) ?_
    refine lv_iconst (v := 3) hx hb dX5_readsCommand_35 (by decide) ?_
    refine lv_icmp_ne (tgt := 43) hx hb dX5_readsCommand_36 (by decide) (fun _ => ?_) (fun c => absurd c (by decide))
    refine lv_iconst (v := 1) hx hb dX5_readsCommand_43 (by decide) ?_
    have hs_11 : (t_num (σ.2 10) n9 q1 32 1).1.1 ≤ n9 := t_num_le (by decide) hs1
    refine mo_calli (va_runV (As := [.int 32, .int 1]) (rest := [.int (nI (4 * t9)), .ref (ma 23)]) ⟨hx, hb, hml, hown, hts⟩ (met_X5_number l G hM 32 1 (by decide) (by decide) hn9 hn6 hs1) (cwV 2 hts (lw_V q2963 q2965 qs86 q106 q2966) rfl rfl rfl (by decide +kernel) ⟨Nat.le_of_ble_eq_true rfl, Nat.le_of_ble_eq_true rfl⟩) (hv_preV hw pk_X5 hM.1) rfl rfl hl.1 rfl (lv_room (Nat.le_of_ble_eq_true rfl)) dX5_readsCommand_44 ⟨Nat.le_of_ble_eq_true rfl, Nat.le_of_ble_eq_true rfl⟩) hw hF (fun hh H locs hM hF hw => ?_)
    have hM : isMod G hh o ma (m_ts (mo_sa σ 22 t9 4) (t_num (σ.2 10) n9 q1 32 1).1) := hM
    refine lv_tope (y := (t_n1 (σ.2 10) n9 q1 4).2) (rfl) ?_
    have hM : isMod G hh o ma (m_ts (mo_sa σ 22 t9 4) (t_n1 (σ.2 10) n9 q1 4).1) := hM
    have t_n1h : (t_n1 (σ.2 10) n9 q1 4).1.1 ≤ n9 := t_n1_le hs1
    refine mo_ast hx hb hw hM hF 23 rfl (j := (4 * t9)) rfl (show 4 * t9 < 64 by omega) dX5_readsCommand_47 (fun hh H locs hM hF hw => ?_)
    have hM : isMod G hh o ma (m_ts (mo_sa (mo_sa σ 22 t9 4) 23 (4 * t9) ((t_n1 (σ.2 10) n9 q1 4).2)) (t_n1 (σ.2 10) n9 q1 4).1) := hM
    refine lv_iload_n hx hb dX5_readsCommand_48 rfl (lv_at hl 0 rfl) ?_
    refine lv_bipush (v := 6) hx hb dX5_readsCommand_49 (by decide) ?_
    refine lv_icmp_ge (tgt := 98) hx hb dX5_readsCommand_51 (by decide) (fun c => absurd c (by decide)) (fun _ => ?_)
    refine lv_aload_n hx hb dX5_readsCommand_54 rfl (lv_at hl 1 rfl) ?_
    refine mo_get hx hb hts hown hw hM 23 (by decide) q2577 rfl (v := .ref (ma 23)) rfl dX5_readsCommand_55 ?_
    refine lv_iconst (v := 4) hx hb dX5_readsCommand_58 (by decide) ?_
    refine lv_aload_n hx hb dX5_readsCommand_59 rfl (lv_at hl 1 rfl) ?_
    refine mo_get hx hb hts hown hw hM 21 (by decide) q2575 rfl (v := .int ((m_ts (mo_sa (mo_sa σ 22 t9 4) 23 (4 * t9) ((t_n1 (σ.2 10) n9 q1 4).2)) (t_n1 (σ.2 10) n9 q1 4).1).1 21)) rfl dX5_readsCommand_60 ?_
    refine lv_tope (y := nI t9) ((m_ts_gk (by decide) (by decide)).trans ht) ?_
    refine lv_imul hx hb dX5_readsCommand_63 ?_
    refine lv_tope (y := nI (4 * t9)) (by simp only [nI, Int32.ofNat_add, Int32.ofNat_mul] <;> rfl) ?_
    refine lv_iconst (v := 1) hx hb dX5_readsCommand_64 (by decide) ?_
    refine lv_iadd hx hb dX5_readsCommand_65 ?_
    refine lv_tope (y := nI (4 * t9 + 1)) (by simp only [nI, Int32.ofNat_add, Int32.ofNat_mul] <;> rfl) ?_
    refine lv_aload_n hx hb dX5_readsCommand_66 rfl (lv_at hl 1 rfl) ?_
    refine lv_iload_n hx hb dX5_readsCommand_67 rfl (lv_at hl 0 rfl) ?_
    refine lv_iconst (v := 2) hx hb dX5_readsCommand_68 (by decide) ?_
    refine lv_icmp_le (tgt := 77) hx hb dX5_readsCommand_69 (by decide) (fun c => absurd c (by decide)) (fun _ => ?_)
    refine lv_bipush (v := 61) hx hb dX5_readsCommand_72 (by decide) ?_
    refine lv_goto (tgt := 79) hx hb dX5_readsCommand_74 (by decide) ?_
    refine lv_iload_n hx hb dX5_readsCommand_79 rfl (lv_at hl 0 rfl) ?_
    refine lv_iconst (v := 1) hx hb dX5_readsCommand_80 (by decide) ?_
    refine lv_icmp_eq (tgt := 89) hx hb dX5_readsCommand_81 (by decide) (fun c => absurd c (by decide)) (fun _ => ?_)
    refine lv_iload_n hx hb dX5_readsCommand_84 rfl (lv_at hl 0 rfl) ?_
    refine lv_iconst (v := 2) hx hb dX5_readsCommand_85 (by decide) ?_
    refine lv_icmp_ne (tgt := 93) hx hb dX5_readsCommand_86 (by decide) (fun _ => ?_) (fun c => absurd c (by decide))
    refine lv_iconst (v := 4) hx hb dX5_readsCommand_93 (by decide) ?_
    have hs_12 : (t_num (σ.2 10) n9 ((t_n1 (σ.2 10) n9 q1 4).1) 61 4).1.1 ≤ n9 := t_num_le (by decide) t_n1h
    refine mo_calli (va_runV (As := [.int 61, .int 4]) (rest := [.int (nI (4 * t9 + 1)), .ref (ma 23)]) ⟨hx, hb, hml, hown, hts⟩ (met_X5_number l G hM 61 4 (by decide) (by decide) hn9 hn6 t_n1h) (cwV 2 hts (lw_V q2963 q2965 qs86 q106 q2966) rfl rfl rfl (by decide +kernel) ⟨Nat.le_of_ble_eq_true rfl, Nat.le_of_ble_eq_true rfl⟩) (hv_preV hw pk_X5 hM.1) rfl rfl hl.1 rfl (lv_room (Nat.le_of_ble_eq_true rfl)) dX5_readsCommand_94 ⟨Nat.le_of_ble_eq_true rfl, Nat.le_of_ble_eq_true rfl⟩) hw hF (fun hh H locs hM hF hw => ?_)
    have hM : isMod G hh o ma (m_ts (mo_sa (mo_sa σ 22 t9 4) 23 (4 * t9) ((t_n1 (σ.2 10) n9 q1 4).2)) (t_num (σ.2 10) n9 ((t_n1 (σ.2 10) n9 q1 4).1) 61 4).1) := hM
    refine lv_tope (y := (t_n2 (σ.2 10) n9 q1 4).2) (rfl) ?_
    have hM : isMod G hh o ma (m_ts (mo_sa (mo_sa σ 22 t9 4) 23 (4 * t9) ((t_n1 (σ.2 10) n9 q1 4).2)) (t_n2 (σ.2 10) n9 q1 4).1) := hM
    have t_n2h : (t_n2 (σ.2 10) n9 q1 4).1.1 ≤ n9 := t_n2_le hs1
    refine mo_ast hx hb hw hM hF 23 rfl (j := (4 * t9 + 1)) rfl (show 4 * t9 + 1 < 64 by omega) dX5_readsCommand_97 (fun hh H locs hM hF hw => ?_)
    have hM : isMod G hh o ma (m_ts (mo_sa (mo_sa (mo_sa σ 22 t9 4) 23 (4 * t9) ((t_n1 (σ.2 10) n9 q1 4).2)) 23 (4 * t9 + 1) ((t_n2 (σ.2 10) n9 q1 4).2)) (t_n2 (σ.2 10) n9 q1 4).1) := hM
    refine lv_iload_n hx hb dX5_readsCommand_98 rfl (lv_at hl 0 rfl) ?_
    refine lv_iconst (v := 1) hx hb dX5_readsCommand_99 (by decide) ?_
    refine lv_icmp_ne (tgt := 186) hx hb dX5_readsCommand_100 (by decide) (fun _ => ?_) (fun c => absurd c (by decide))
    refine lv_aload_n hx hb dX5_readsCommand_186 rfl (lv_at hl 1 rfl) ?_
    refine lv_dup hx hb dX5_readsCommand_187 rfl ?_
    refine mo_get hx hb hts hown hw hM 21 (by decide) q2575 rfl (v := .int ((m_ts (mo_sa (mo_sa (mo_sa σ 22 t9 4) 23 (4 * t9) ((t_n1 (σ.2 10) n9 q1 4).2)) 23 (4 * t9 + 1) ((t_n2 (σ.2 10) n9 q1 4).2)) (t_n2 (σ.2 10) n9 q1 4).1).1 21)) rfl dX5_readsCommand_188 ?_
    refine lv_tope (y := nI t9) ((m_ts_gk (by decide) (by decide)).trans ht) ?_
    refine lv_iconst (v := 1) hx hb dX5_readsCommand_191 (by decide) ?_
    refine lv_iadd hx hb dX5_readsCommand_192 ?_
    refine lv_tope (y := nI (t9 + 1)) (by simp only [nI, Int32.ofNat_add, Int32.ofNat_mul] <;> rfl) ?_
    refine mo_put hx hb hts hown hw hM hF 21 (by decide) rfl q2575 rfl rfl rfl rfl dX5_readsCommand_193 (fun hh H locs hM hF hw => ?_)
    rw [m_ts_k (by decide) (by decide)] at hM
    have hcm : t_cmd (σ.2 10) n9 s9 = ((t_n2 (σ.2 10) n9 q1 4).1, (4, (t_n1 (σ.2 10) n9 q1 4).2, (t_n2 (σ.2 10) n9 q1 4).2, 0, 0)) := by rw [t_cmd_eq, ← hfw, ← hq1]; exact t_arg_o (by decide) (by decide) (by decide)
    have hmc : m_cmd σ t9 (4, (t_n1 (σ.2 10) n9 q1 4).2, (t_n2 (σ.2 10) n9 q1 4).2, 0, 0) (mo_st (mo_sa (mo_sa (mo_sa σ 22 t9 4) 23 (4 * t9) ((t_n1 (σ.2 10) n9 q1 4).2)) 23 (4 * t9 + 1) ((t_n2 (σ.2 10) n9 q1 4).2)) 21 (nI (t9 + 1))) := m_cmd_o (by decide)
    exact hret hw ⟨_, m_cmd_fin hcm hmc, hM, hF⟩ (Nat.le_of_ble_eq_true rfl) (Nat.le_of_ble_eq_true rfl) dX5_readsCommand_196
  · skip
    refine lv_tope (y := 5) rfl ?_
    refine lv_istore_n (lv' := [(1, .int 5), (0, .ref o)]) hx hb dX5_readsCommand_4 rfl hl (by decide) rfl (fun ls hl => ?_)
    refine lv_aload_n hx hb dX5_readsCommand_5 rfl (lv_at hl 1 rfl) ?_
    refine mo_get hx hb hts hown hw hM 22 (by decide) q2576 rfl (v := .ref (ma 22)) rfl dX5_readsCommand_6 ?_
    refine lv_aload_n hx hb dX5_readsCommand_9 rfl (lv_at hl 1 rfl) ?_
    refine mo_get hx hb hts hown hw hM 21 (by decide) q2575 rfl (v := .int ((m_ts σ q1).1 21)) rfl dX5_readsCommand_10 ?_
    refine lv_tope (y := nI t9) ((m_ts_gk (by decide) (by decide)).trans ht) ?_
    refine lv_iload_n hx hb dX5_readsCommand_13 rfl (lv_at hl 0 rfl) ?_
    refine mo_ast hx hb hw hM hF 22 rfl (j := t9) rfl (show t9 < 16 by omega) dX5_readsCommand_14 (fun hh H locs hM hF hw => ?_)
    have hM : isMod G hh o ma (m_ts (mo_sa σ 22 t9 5) q1) := hM
    refine lv_iload_n hx hb dX5_readsCommand_15 rfl (lv_at hl 0 rfl) ?_
    refine lv_bipush (v := 7) hx hb dX5_readsCommand_16 (by decide) ?_
    refine lv_icmp_ge (tgt := 48) hx hb dX5_readsCommand_18 (by decide) (fun c => absurd c (by decide)) (fun _ => ?_)
    refine lv_aload_n hx hb dX5_readsCommand_21 rfl (lv_at hl 1 rfl) ?_
    refine mo_get hx hb hts hown hw hM 23 (by decide) q2577 rfl (v := .ref (ma 23)) rfl dX5_readsCommand_22 ?_
    refine lv_iconst (v := 4) hx hb dX5_readsCommand_25 (by decide) ?_
    refine lv_aload_n hx hb dX5_readsCommand_26 rfl (lv_at hl 1 rfl) ?_
    refine mo_get hx hb hts hown hw hM 21 (by decide) q2575 rfl (v := .int ((m_ts (mo_sa σ 22 t9 5) q1).1 21)) rfl dX5_readsCommand_27 ?_
    refine lv_tope (y := nI t9) ((m_ts_gk (by decide) (by decide)).trans ht) ?_
    refine lv_imul hx hb dX5_readsCommand_30 ?_
    refine lv_tope (y := nI (4 * t9)) (by simp only [nI, Int32.ofNat_add, Int32.ofNat_mul] <;> rfl) ?_
    refine lv_aload_n hx hb dX5_readsCommand_31 rfl (lv_at hl 1 rfl) ?_
    refine lv_bipush (v := 32) hx hb dX5_readsCommand_32 (by decide) ?_
    refine lv_iload_n hx hb dX5_readsCommand_34 rfl (lv_at hl 0 rfl) ?_
    refine lv_iconst (v := 3) hx hb dX5_readsCommand_35 (by decide) ?_
    refine lv_icmp_ne (tgt := 43) hx hb dX5_readsCommand_36 (by decide) (fun _ => ?_) (fun c => absurd c (by decide))
    refine lv_iconst (v := 1) hx hb dX5_readsCommand_43 (by decide) ?_
    have hs_13 : (t_num (σ.2 10) n9 q1 32 1).1.1 ≤ n9 := t_num_le (by decide) hs1
    refine mo_calli (va_runV (As := [.int 32, .int 1]) (rest := [.int (nI (4 * t9)), .ref (ma 23)]) ⟨hx, hb, hml, hown, hts⟩ (met_X5_number l G hM 32 1 (by decide) (by decide) hn9 hn6 hs1) (cwV 2 hts (lw_V q2963 q2965 qs86 q106 q2966) rfl rfl rfl (by decide +kernel) ⟨Nat.le_of_ble_eq_true rfl, Nat.le_of_ble_eq_true rfl⟩) (hv_preV hw pk_X5 hM.1) rfl rfl hl.1 rfl (lv_room (Nat.le_of_ble_eq_true rfl)) dX5_readsCommand_44 ⟨Nat.le_of_ble_eq_true rfl, Nat.le_of_ble_eq_true rfl⟩) hw hF (fun hh H locs hM hF hw => ?_)
    have hM : isMod G hh o ma (m_ts (mo_sa σ 22 t9 5) (t_num (σ.2 10) n9 q1 32 1).1) := hM
    refine lv_tope (y := (t_n1 (σ.2 10) n9 q1 5).2) (rfl) ?_
    have hM : isMod G hh o ma (m_ts (mo_sa σ 22 t9 5) (t_n1 (σ.2 10) n9 q1 5).1) := hM
    have t_n1h : (t_n1 (σ.2 10) n9 q1 5).1.1 ≤ n9 := t_n1_le hs1
    refine mo_ast hx hb hw hM hF 23 rfl (j := (4 * t9)) rfl (show 4 * t9 < 64 by omega) dX5_readsCommand_47 (fun hh H locs hM hF hw => ?_)
    have hM : isMod G hh o ma (m_ts (mo_sa (mo_sa σ 22 t9 5) 23 (4 * t9) ((t_n1 (σ.2 10) n9 q1 5).2)) (t_n1 (σ.2 10) n9 q1 5).1) := hM
    refine lv_iload_n hx hb dX5_readsCommand_48 rfl (lv_at hl 0 rfl) ?_
    refine lv_bipush (v := 6) hx hb dX5_readsCommand_49 (by decide) ?_
    refine lv_icmp_ge (tgt := 98) hx hb dX5_readsCommand_51 (by decide) (fun c => absurd c (by decide)) (fun _ => ?_)
    refine lv_aload_n hx hb dX5_readsCommand_54 rfl (lv_at hl 1 rfl) ?_
    refine mo_get hx hb hts hown hw hM 23 (by decide) q2577 rfl (v := .ref (ma 23)) rfl dX5_readsCommand_55 ?_
    refine lv_iconst (v := 4) hx hb dX5_readsCommand_58 (by decide) ?_
    refine lv_aload_n hx hb dX5_readsCommand_59 rfl (lv_at hl 1 rfl) ?_
    refine mo_get hx hb hts hown hw hM 21 (by decide) q2575 rfl (v := .int ((m_ts (mo_sa (mo_sa σ 22 t9 5) 23 (4 * t9) ((t_n1 (σ.2 10) n9 q1 5).2)) (t_n1 (σ.2 10) n9 q1 5).1).1 21)) rfl dX5_readsCommand_60 ?_
    refine lv_tope (y := nI t9) ((m_ts_gk (by decide) (by decide)).trans ht) ?_
    refine lv_imul hx hb dX5_readsCommand_63 ?_
    refine lv_tope (y := nI (4 * t9)) (by simp only [nI, Int32.ofNat_add, Int32.ofNat_mul] <;> rfl) ?_
    refine lv_iconst (v := 1) hx hb dX5_readsCommand_64 (by decide) ?_
    refine lv_iadd hx hb dX5_readsCommand_65 ?_
    refine lv_tope (y := nI (4 * t9 + 1)) (by simp only [nI, Int32.ofNat_add, Int32.ofNat_mul] <;> rfl) ?_
    refine lv_aload_n hx hb dX5_readsCommand_66 rfl (lv_at hl 1 rfl) ?_
    refine lv_iload_n hx hb dX5_readsCommand_67 rfl (lv_at hl 0 rfl) ?_
    refine lv_iconst (v := 2) hx hb dX5_readsCommand_68 (by decide) ?_
    refine lv_icmp_le (tgt := 77) hx hb dX5_readsCommand_69 (by decide) (fun c => absurd c (by decide)) (fun _ => ?_)
    refine lv_bipush (v := 61) hx hb dX5_readsCommand_72 (by decide) ?_
    refine lv_goto (tgt := 79) hx hb dX5_readsCommand_74 (by decide) ?_
    refine lv_iload_n hx hb dX5_readsCommand_79 rfl (lv_at hl 0 rfl) ?_
    refine lv_iconst (v := 1) hx hb dX5_readsCommand_80 (by decide) ?_
    refine lv_icmp_eq (tgt := 89) hx hb dX5_readsCommand_81 (by decide) (fun c => absurd c (by decide)) (fun _ => ?_)
    refine lv_iload_n hx hb dX5_readsCommand_84 rfl (lv_at hl 0 rfl) ?_
    refine lv_iconst (v := 2) hx hb dX5_readsCommand_85 (by decide) ?_
    refine lv_icmp_ne (tgt := 93) hx hb dX5_readsCommand_86 (by decide) (fun _ => ?_) (fun c => absurd c (by decide))
    refine lv_iconst (v := 4) hx hb dX5_readsCommand_93 (by decide) ?_
    have hs_14 : (t_num (σ.2 10) n9 ((t_n1 (σ.2 10) n9 q1 5).1) 61 4).1.1 ≤ n9 := t_num_le (by decide) t_n1h
    refine mo_calli (va_runV (As := [.int 61, .int 4]) (rest := [.int (nI (4 * t9 + 1)), .ref (ma 23)]) ⟨hx, hb, hml, hown, hts⟩ (met_X5_number l G hM 61 4 (by decide) (by decide) hn9 hn6 t_n1h) (cwV 2 hts (lw_V q2963 q2965 qs86 q106 q2966) rfl rfl rfl (by decide +kernel) ⟨Nat.le_of_ble_eq_true rfl, Nat.le_of_ble_eq_true rfl⟩) (hv_preV hw pk_X5 hM.1) rfl rfl hl.1 rfl (lv_room (Nat.le_of_ble_eq_true rfl)) dX5_readsCommand_94 ⟨Nat.le_of_ble_eq_true rfl, Nat.le_of_ble_eq_true rfl⟩) hw hF (fun hh H locs hM hF hw => ?_)
    have hM : isMod G hh o ma (m_ts (mo_sa (mo_sa σ 22 t9 5) 23 (4 * t9) ((t_n1 (σ.2 10) n9 q1 5).2)) (t_num (σ.2 10) n9 ((t_n1 (σ.2 10) n9 q1 5).1) 61 4).1) := hM
    refine lv_tope (y := (t_n2 (σ.2 10) n9 q1 5).2) (rfl) ?_
    have hM : isMod G hh o ma (m_ts (mo_sa (mo_sa σ 22 t9 5) 23 (4 * t9) ((t_n1 (σ.2 10) n9 q1 5).2)) (t_n2 (σ.2 10) n9 q1 5).1) := hM
    have t_n2h : (t_n2 (σ.2 10) n9 q1 5).1.1 ≤ n9 := t_n2_le hs1
    refine mo_ast hx hb hw hM hF 23 rfl (j := (4 * t9 + 1)) rfl (show 4 * t9 + 1 < 64 by omega) dX5_readsCommand_97 (fun hh H locs hM hF hw => ?_)
    have hM : isMod G hh o ma (m_ts (mo_sa (mo_sa (mo_sa σ 22 t9 5) 23 (4 * t9) ((t_n1 (σ.2 10) n9 q1 5).2)) 23 (4 * t9 + 1) ((t_n2 (σ.2 10) n9 q1 5).2)) (t_n2 (σ.2 10) n9 q1 5).1) := hM
    refine lv_iload_n hx hb dX5_readsCommand_98 rfl (lv_at hl 0 rfl) ?_
    refine lv_iconst (v := 1) hx hb dX5_readsCommand_99 (by decide) ?_
    refine lv_icmp_ne (tgt := 186) hx hb dX5_readsCommand_100 (by decide) (fun _ => ?_) (fun c => absurd c (by decide))
    refine lv_aload_n hx hb dX5_readsCommand_186 rfl (lv_at hl 1 rfl) ?_
    refine lv_dup hx hb dX5_readsCommand_187 rfl ?_
    refine mo_get hx hb hts hown hw hM 21 (by decide) q2575 rfl (v := .int ((m_ts (mo_sa (mo_sa (mo_sa σ 22 t9 5) 23 (4 * t9) ((t_n1 (σ.2 10) n9 q1 5).2)) 23 (4 * t9 + 1) ((t_n2 (σ.2 10) n9 q1 5).2)) (t_n2 (σ.2 10) n9 q1 5).1).1 21)) rfl dX5_readsCommand_188 ?_
    refine lv_tope (y := nI t9) ((m_ts_gk (by decide) (by decide)).trans ht) ?_
    refine lv_iconst (v := 1) hx hb dX5_readsCommand_191 (by decide) ?_
    refine lv_iadd hx hb dX5_readsCommand_192 ?_
    refine lv_tope (y := nI (t9 + 1)) (by simp only [nI, Int32.ofNat_add, Int32.ofNat_mul] <;> rfl) ?_
    refine mo_put hx hb hts hown hw hM hF 21 (by decide) rfl q2575 rfl rfl rfl rfl dX5_readsCommand_193 (fun hh H locs hM hF hw => ?_)
    rw [m_ts_k (by decide) (by decide)] at hM
    have hcm : t_cmd (σ.2 10) n9 s9 = ((t_n2 (σ.2 10) n9 q1 5).1, (5, (t_n1 (σ.2 10) n9 q1 5).2, (t_n2 (σ.2 10) n9 q1 5).2, 0, 0)) := by rw [t_cmd_eq, ← hfw, ← hq1]; exact t_arg_o (by decide) (by decide) (by decide)
    have hmc : m_cmd σ t9 (5, (t_n1 (σ.2 10) n9 q1 5).2, (t_n2 (σ.2 10) n9 q1 5).2, 0, 0) (mo_st (mo_sa (mo_sa (mo_sa σ 22 t9 5) 23 (4 * t9) ((t_n1 (σ.2 10) n9 q1 5).2)) 23 (4 * t9 + 1) ((t_n2 (σ.2 10) n9 q1 5).2)) 21 (nI (t9 + 1))) := m_cmd_o (by decide)
    exact hret hw ⟨_, m_cmd_fin hcm hmc, hM, hF⟩ (Nat.le_of_ble_eq_true rfl) (Nat.le_of_ble_eq_true rfl) dX5_readsCommand_196
  · skip
    refine lv_tope (y := 6) rfl ?_
    refine lv_istore_n (lv' := [(1, .int 6), (0, .ref o)]) hx hb dX5_readsCommand_4 rfl hl (by decide) rfl (fun ls hl => ?_)
    refine lv_aload_n hx hb dX5_readsCommand_5 rfl (lv_at hl 1 rfl) ?_
    refine mo_get hx hb hts hown hw hM 22 (by decide) q2576 rfl (v := .ref (ma 22)) rfl dX5_readsCommand_6 ?_
    refine lv_aload_n hx hb dX5_readsCommand_9 rfl (lv_at hl 1 rfl) ?_
    refine mo_get hx hb hts hown hw hM 21 (by decide) q2575 rfl (v := .int ((m_ts σ q1).1 21)) rfl dX5_readsCommand_10 ?_
    refine lv_tope (y := nI t9) ((m_ts_gk (by decide) (by decide)).trans ht) ?_
    refine lv_iload_n hx hb dX5_readsCommand_13 rfl (lv_at hl 0 rfl) ?_
    refine mo_ast hx hb hw hM hF 22 rfl (j := t9) rfl (show t9 < 16 by omega) dX5_readsCommand_14 (fun hh H locs hM hF hw => ?_)
    have hM : isMod G hh o ma (m_ts (mo_sa σ 22 t9 6) q1) := hM
    refine lv_iload_n hx hb dX5_readsCommand_15 rfl (lv_at hl 0 rfl) ?_
    refine lv_bipush (v := 7) hx hb dX5_readsCommand_16 (by decide) ?_
    refine lv_icmp_ge (tgt := 48) hx hb dX5_readsCommand_18 (by decide) (fun c => absurd c (by decide)) (fun _ => ?_)
    refine lv_aload_n hx hb dX5_readsCommand_21 rfl (lv_at hl 1 rfl) ?_
    refine mo_get hx hb hts hown hw hM 23 (by decide) q2577 rfl (v := .ref (ma 23)) rfl dX5_readsCommand_22 ?_
    refine lv_iconst (v := 4) hx hb dX5_readsCommand_25 (by decide) ?_
    refine lv_aload_n hx hb dX5_readsCommand_26 rfl (lv_at hl 1 rfl) ?_
    refine mo_get hx hb hts hown hw hM 21 (by decide) q2575 rfl (v := .int ((m_ts (mo_sa σ 22 t9 6) q1).1 21)) rfl dX5_readsCommand_27 ?_
    refine lv_tope (y := nI t9) ((m_ts_gk (by decide) (by decide)).trans ht) ?_
    refine lv_imul hx hb dX5_readsCommand_30 ?_
    refine lv_tope (y := nI (4 * t9)) (by simp only [nI, Int32.ofNat_add, Int32.ofNat_mul] <;> rfl) ?_
    refine lv_aload_n hx hb dX5_readsCommand_31 rfl (lv_at hl 1 rfl) ?_
    refine lv_bipush (v := 32) hx hb dX5_readsCommand_32 (by decide) ?_
    refine lv_iload_n hx hb dX5_readsCommand_34 rfl (lv_at hl 0 rfl) ?_
    refine lv_iconst (v := 3) hx hb dX5_readsCommand_35 (by decide) ?_
    refine lv_icmp_ne (tgt := 43) hx hb dX5_readsCommand_36 (by decide) (fun _ => ?_) (fun c => absurd c (by decide))
    refine lv_iconst (v := 1) hx hb dX5_readsCommand_43 (by decide) ?_
    have hs_15 : (t_num (σ.2 10) n9 q1 32 1).1.1 ≤ n9 := t_num_le (by decide) hs1
    refine mo_calli (va_runV (As := [.int 32, .int 1]) (rest := [.int (nI (4 * t9)), .ref (ma 23)]) ⟨hx, hb, hml, hown, hts⟩ (met_X5_number l G hM 32 1 (by decide) (by decide) hn9 hn6 hs1) (cwV 2 hts (lw_V q2963 q2965 qs86 q106 q2966) rfl rfl rfl (by decide +kernel) ⟨Nat.le_of_ble_eq_true rfl, Nat.le_of_ble_eq_true rfl⟩) (hv_preV hw pk_X5 hM.1) rfl rfl hl.1 rfl (lv_room (Nat.le_of_ble_eq_true rfl)) dX5_readsCommand_44 ⟨Nat.le_of_ble_eq_true rfl, Nat.le_of_ble_eq_true rfl⟩) hw hF (fun hh H locs hM hF hw => ?_)
    have hM : isMod G hh o ma (m_ts (mo_sa σ 22 t9 6) (t_num (σ.2 10) n9 q1 32 1).1) := hM
    refine lv_tope (y := (t_n1 (σ.2 10) n9 q1 6).2) (rfl) ?_
    have hM : isMod G hh o ma (m_ts (mo_sa σ 22 t9 6) (t_n1 (σ.2 10) n9 q1 6).1) := hM
    have t_n1h : (t_n1 (σ.2 10) n9 q1 6).1.1 ≤ n9 := t_n1_le hs1
    refine mo_ast hx hb hw hM hF 23 rfl (j := (4 * t9)) rfl (show 4 * t9 < 64 by omega) dX5_readsCommand_47 (fun hh H locs hM hF hw => ?_)
    have hM : isMod G hh o ma (m_ts (mo_sa (mo_sa σ 22 t9 6) 23 (4 * t9) ((t_n1 (σ.2 10) n9 q1 6).2)) (t_n1 (σ.2 10) n9 q1 6).1) := hM
    refine lv_iload_n hx hb dX5_readsCommand_48 rfl (lv_at hl 0 rfl) ?_
    refine lv_bipush (v := 6) hx hb dX5_readsCommand_49 (by decide) ?_
    refine lv_icmp_ge (tgt := 98) hx hb dX5_readsCommand_51 (by decide) (fun _ => ?_) (fun c => absurd c (by decide))
    refine lv_iload_n hx hb dX5_readsCommand_98 rfl (lv_at hl 0 rfl) ?_
    refine lv_iconst (v := 1) hx hb dX5_readsCommand_99 (by decide) ?_
    refine lv_icmp_ne (tgt := 186) hx hb dX5_readsCommand_100 (by decide) (fun _ => ?_) (fun c => absurd c (by decide))
    refine lv_aload_n hx hb dX5_readsCommand_186 rfl (lv_at hl 1 rfl) ?_
    refine lv_dup hx hb dX5_readsCommand_187 rfl ?_
    refine mo_get hx hb hts hown hw hM 21 (by decide) q2575 rfl (v := .int ((m_ts (mo_sa (mo_sa σ 22 t9 6) 23 (4 * t9) ((t_n1 (σ.2 10) n9 q1 6).2)) (t_n1 (σ.2 10) n9 q1 6).1).1 21)) rfl dX5_readsCommand_188 ?_
    refine lv_tope (y := nI t9) ((m_ts_gk (by decide) (by decide)).trans ht) ?_
    refine lv_iconst (v := 1) hx hb dX5_readsCommand_191 (by decide) ?_
    refine lv_iadd hx hb dX5_readsCommand_192 ?_
    refine lv_tope (y := nI (t9 + 1)) (by simp only [nI, Int32.ofNat_add, Int32.ofNat_mul] <;> rfl) ?_
    refine mo_put hx hb hts hown hw hM hF 21 (by decide) rfl q2575 rfl rfl rfl rfl dX5_readsCommand_193 (fun hh H locs hM hF hw => ?_)
    rw [m_ts_k (by decide) (by decide)] at hM
    have hcm : t_cmd (σ.2 10) n9 s9 = ((t_n1 (σ.2 10) n9 q1 6).1, (6, (t_n1 (σ.2 10) n9 q1 6).2, 0, 0, 0)) := by rw [t_cmd_eq, ← hfw, ← hq1]; exact t_arg_6
    have hmc : m_cmd σ t9 (6, (t_n1 (σ.2 10) n9 q1 6).2, 0, 0, 0) (mo_st (mo_sa (mo_sa σ 22 t9 6) 23 (4 * t9) ((t_n1 (σ.2 10) n9 q1 6).2)) 21 (nI (t9 + 1))) := m_cmd_6
    exact hret hw ⟨_, m_cmd_fin hcm hmc, hM, hF⟩ (Nat.le_of_ble_eq_true rfl) (Nat.le_of_ble_eq_true rfl) dX5_readsCommand_196
  · skip
    refine lv_tope (y := 7) rfl ?_
    refine lv_istore_n (lv' := [(1, .int 7), (0, .ref o)]) hx hb dX5_readsCommand_4 rfl hl (by decide) rfl (fun ls hl => ?_)
    refine lv_aload_n hx hb dX5_readsCommand_5 rfl (lv_at hl 1 rfl) ?_
    refine mo_get hx hb hts hown hw hM 22 (by decide) q2576 rfl (v := .ref (ma 22)) rfl dX5_readsCommand_6 ?_
    refine lv_aload_n hx hb dX5_readsCommand_9 rfl (lv_at hl 1 rfl) ?_
    refine mo_get hx hb hts hown hw hM 21 (by decide) q2575 rfl (v := .int ((m_ts σ q1).1 21)) rfl dX5_readsCommand_10 ?_
    refine lv_tope (y := nI t9) ((m_ts_gk (by decide) (by decide)).trans ht) ?_
    refine lv_iload_n hx hb dX5_readsCommand_13 rfl (lv_at hl 0 rfl) ?_
    refine mo_ast hx hb hw hM hF 22 rfl (j := t9) rfl (show t9 < 16 by omega) dX5_readsCommand_14 (fun hh H locs hM hF hw => ?_)
    have hM : isMod G hh o ma (m_ts (mo_sa σ 22 t9 7) q1) := hM
    refine lv_iload_n hx hb dX5_readsCommand_15 rfl (lv_at hl 0 rfl) ?_
    refine lv_bipush (v := 7) hx hb dX5_readsCommand_16 (by decide) ?_
    refine lv_icmp_ge (tgt := 48) hx hb dX5_readsCommand_18 (by decide) (fun _ => ?_) (fun c => absurd c (by decide))
    refine lv_iload_n hx hb dX5_readsCommand_48 rfl (lv_at hl 0 rfl) ?_
    refine lv_bipush (v := 6) hx hb dX5_readsCommand_49 (by decide) ?_
    refine lv_icmp_ge (tgt := 98) hx hb dX5_readsCommand_51 (by decide) (fun _ => ?_) (fun c => absurd c (by decide))
    refine lv_iload_n hx hb dX5_readsCommand_98 rfl (lv_at hl 0 rfl) ?_
    refine lv_iconst (v := 1) hx hb dX5_readsCommand_99 (by decide) ?_
    refine lv_icmp_ne (tgt := 186) hx hb dX5_readsCommand_100 (by decide) (fun _ => ?_) (fun c => absurd c (by decide))
    refine lv_aload_n hx hb dX5_readsCommand_186 rfl (lv_at hl 1 rfl) ?_
    refine lv_dup hx hb dX5_readsCommand_187 rfl ?_
    refine mo_get hx hb hts hown hw hM 21 (by decide) q2575 rfl (v := .int ((m_ts (mo_sa σ 22 t9 7) q1).1 21)) rfl dX5_readsCommand_188 ?_
    refine lv_tope (y := nI t9) ((m_ts_gk (by decide) (by decide)).trans ht) ?_
    refine lv_iconst (v := 1) hx hb dX5_readsCommand_191 (by decide) ?_
    refine lv_iadd hx hb dX5_readsCommand_192 ?_
    refine lv_tope (y := nI (t9 + 1)) (by simp only [nI, Int32.ofNat_add, Int32.ofNat_mul] <;> rfl) ?_
    refine mo_put hx hb hts hown hw hM hF 21 (by decide) rfl q2575 rfl rfl rfl rfl dX5_readsCommand_193 (fun hh H locs hM hF hw => ?_)
    rw [m_ts_k (by decide) (by decide)] at hM
    have hcm : t_cmd (σ.2 10) n9 s9 = (q1, (7, 0, 0, 0, 0)) := by rw [t_cmd_eq, ← hfw, ← hq1]; exact t_arg_7
    have hmc : m_cmd σ t9 (7, 0, 0, 0, 0) (mo_st (mo_sa σ 22 t9 7) 21 (nI (t9 + 1))) := m_cmd_7
    exact hret hw ⟨_, m_cmd_fin hcm hmc, hM, hF⟩ (Nat.le_of_ble_eq_true rfl) (Nat.le_of_ble_eq_true rfl) dX5_readsCommand_196
