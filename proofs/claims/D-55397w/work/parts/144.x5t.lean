set_option maxRecDepth 100000
set_option maxHeartbeats 400000 in
theorem met_X5_sign (l : Launch) (G : hG) {h : hp} {o : Nat} {ma : Nat → Nat} {σ : MS} {n9 : Nat} {s9 : TS} (hM : isMod G h o ma (m_ts σ s9))  (hn9 : σ.1 18 = nI n9) (hn6 : n9 ≤ 60) (hs9 : s9.1 ≤ n9) : mo_Ri l G yX5_sign (ws_ yX5_sign cX5_sign 1 (Option.some Jvm.ClassFile.FieldType.int)) ({ frames := 0, cells := 0, slots := 0, locals := 0 } : Room) [.ref o] h (t_sg (σ.2 10) n9 s9.1) := by
  refine hv_bi .int (Or.inl rfl) (own := RX5) (by decide +kernel) rfl (Nat.le_of_ble_eq_true rfl) (fun p e s m a below meth c ls Q hx hb hml hown hts hnm hret hw hl => ?_)
  have hl : lv_has ls 1 [(0, .ref o)] := hl
  refine lv_aload_n hx hb dX5_sign_0 rfl (lv_at hl 0 rfl) ?_
  refine mo_get hx hb hts hown hw hM 19 (by decide) q2573 rfl (v := .int ((m_ts σ s9).1 19)) rfl dX5_sign_1 ?_
  refine lv_tope (y := nI s9.1) (m_ts_g19) ?_
  refine lv_aload_n hx hb dX5_sign_4 rfl (lv_at hl 0 rfl) ?_
  refine mo_get hx hb hts hown hw hM 18 (by decide) q2572 rfl (v := .int ((m_ts σ s9).1 18)) rfl dX5_sign_5 ?_
  refine lv_tope (y := nI n9) ((m_ts_gk (by decide) (by decide)).trans hn9) ?_
  refine lv_icmp_ge (tgt := 23) hx hb dX5_sign_8 (by decide) (fun c8 => ?_) (fun c8 => ?_)
  · skip
    refine lv_iconst (v := (-1)) hx hb dX5_sign_23 (by decide) ?_
    exact hret rfl hw ⟨(if_neg (fun z => absurd c8 (Int32.not_le.mpr (nI_lt z (by omega))))).symm, rfl⟩ (Nat.le_of_ble_eq_true rfl) (Nat.le_of_ble_eq_true rfl) dX5_sign_24
  · skip
    have hlt := cmp_nle c8 rfl rfl (by omega) (by omega)
    refine lv_aload_n hx hb dX5_sign_11 rfl (lv_at hl 0 rfl) ?_
    refine mo_get hx hb hts hown hw hM 10 (by decide) q2564 rfl (v := .ref (ma 10)) rfl dX5_sign_12 ?_
    refine lv_aload_n hx hb dX5_sign_15 rfl (lv_at hl 0 rfl) ?_
    refine mo_get hx hb hts hown hw hM 19 (by decide) q2573 rfl (v := .int ((m_ts σ s9).1 19)) rfl dX5_sign_16 ?_
    refine lv_tope (y := nI s9.1) (m_ts_g19) ?_
    refine mo_ald hx hb hw hM 10 rfl (j := s9.1) rfl (show s9.1 < 60 by omega) dX5_sign_19 ?_
    refine lv_tope (y := σ.2 10 s9.1) (rfl) ?_
    refine lv_goto (tgt := 24) hx hb dX5_sign_20 (by decide) ?_
    exact hret rfl hw ⟨(if_pos (cmp_nle c8 rfl rfl (by omega) (by omega))).symm, rfl⟩ (Nat.le_of_ble_eq_true rfl) (Nat.le_of_ble_eq_true rfl) dX5_sign_24
set_option maxHeartbeats 400000 in
theorem met_X5_takes (l : Launch) (G : hG) {h : hp} {o : Nat} {ma : Nat → Nat} {σ : MS} {n9 : Nat} {s9 : TS} (hM : isMod G h o ma (m_ts σ s9)) (x : Int32) (y : Int32) (hlo : 0 ≤ x) (hn9 : σ.1 18 = nI n9) (hn6 : n9 ≤ 60) (hs9 : s9.1 ≤ n9) : mo_Mi l G yX5_takes (ws_ yX5_takes cX5_takes 3 (Option.some Jvm.ClassFile.FieldType.int)) ({ frames := 1, cells := 0, slots := 0, locals := 22 } : Room) [.ref o, .int x, .int y] h o ma ((t_tk (σ.2 10) n9 s9 x y).2) (m_ts σ (t_tk (σ.2 10) n9 s9 x y).1) := by
  refine hv_bi .int (Or.inl rfl) (own := RX5) (by decide +kernel) rfl (Nat.le_of_ble_eq_true rfl) (fun p e s m a below meth c ls Q hx hb hml hown hts hnm hret hw hl => ?_)
  have hl : lv_has ls 3 [(0, .ref o), (1, .int x), (2, .int y)] := hl
  have hF : mo_fr o ma h h := mo_fr.rf
  refine lv_aload_n hx hb dX5_takes_0 rfl (lv_at hl 0 rfl) ?_
  refine mo_get hx hb hts hown hw hM 20 (by decide) q2574 rfl (v := .int ((m_ts σ s9).1 20)) rfl dX5_takes_1 ?_
  refine lv_tope (y := s9.2) (m_ts_g20) ?_
  refine lv_iconst (v := (-1)) hx hb dX5_takes_4 (by decide) ?_
  refine lv_icmp_ne (tgt := 45) hx hb dX5_takes_5 (by decide) (fun c5 => ?_) (fun c5 => ?_)
  · skip
    refine lv_aload_n hx hb dX5_takes_45 rfl (lv_at hl 0 rfl) ?_
    refine lv_aload_n hx hb dX5_takes_46 rfl (lv_at hl 0 rfl) ?_
    refine mo_get hx hb hts hown hw hM 20 (by decide) q2574 rfl (v := .int ((m_ts σ s9).1 20)) rfl dX5_takes_47 ?_
    refine lv_tope (y := s9.2) (m_ts_g20) ?_
    refine lv_iconst (v := (-1)) hx hb dX5_takes_50 (by decide) ?_
    refine lv_icmp_ne (tgt := 61) hx hb dX5_takes_51 (by decide) (fun c51 => ?_) (fun c51 => ?_)
    · skip
      refine lv_aload_n hx hb dX5_takes_61 rfl (lv_at hl 0 rfl) ?_
      refine mo_get hx hb hts hown hw hM 20 (by decide) q2574 rfl (v := .int ((m_ts σ s9).1 20)) rfl dX5_takes_62 ?_
      refine lv_tope (y := s9.2) (m_ts_g20) ?_
      refine mo_put hx hb hts hown hw hM hF 20 (by decide) rfl q2574 rfl rfl rfl rfl dX5_takes_65 (fun hh H locs hM hF hw => ?_)
      rw [m_ts_20] at hM
      have hM : isMod G hh o ma (m_ts σ (s9.1, s9.2)) := hM
      refine lv_iconst (v := 0) hx hb dX5_takes_68 (by decide) ?_
      exact hret rfl hw ⟨by unfold t_tk; rw [if_neg (fun z => c5 z.1)], by unfold t_tk; rw [if_neg (fun z => c5 z.1)]; rw [if_neg c51]; exact hM, hF⟩ (Nat.le_of_ble_eq_true rfl) (Nat.le_of_ble_eq_true rfl) dX5_takes_69
    · skip
      refine lv_aload_n hx hb dX5_takes_54 rfl (lv_at hl 0 rfl) ?_
      refine mo_get hx hb hts hown hw hM 19 (by decide) q2573 rfl (v := .int ((m_ts σ s9).1 19)) rfl dX5_takes_55 ?_
      refine lv_tope (y := nI s9.1) (m_ts_g19) ?_
      refine lv_goto (tgt := 65) hx hb dX5_takes_58 (by decide) ?_
      refine mo_put hx hb hts hown hw hM hF 20 (by decide) rfl q2574 rfl rfl rfl rfl dX5_takes_65 (fun hh H locs hM hF hw => ?_)
      rw [m_ts_20] at hM
      have hM : isMod G hh o ma (m_ts σ (s9.1, nI s9.1)) := hM
      refine lv_iconst (v := 0) hx hb dX5_takes_68 (by decide) ?_
      exact hret rfl hw ⟨by unfold t_tk; rw [if_neg (fun z => c5 z.1)], by unfold t_tk; rw [if_neg (fun z => c5 z.1)]; rw [if_pos c51]; exact hM, hF⟩ (Nat.le_of_ble_eq_true rfl) (Nat.le_of_ble_eq_true rfl) dX5_takes_69
  · skip
    refine lv_aload_n hx hb dX5_takes_8 rfl (lv_at hl 0 rfl) ?_
    refine hv_callir (va_runV (As := []) (rest := []) ⟨hx, hb, hml, hown, hts⟩ (met_X5_sign l G hM   hn9 hn6 (show s9.1 ≤ n9 by omega)) (cwV 0 hts (lw_V q2971 q2973 qs88 q106 q2974) rfl rfl rfl (by decide +kernel) ⟨Nat.le_of_ble_eq_true rfl, Nat.le_of_ble_eq_true rfl⟩) (hv_preV hw pk_X5 hM.1) rfl rfl hl.1 rfl (lv_room (Nat.le_of_ble_eq_true rfl)) dX5_takes_9 ⟨Nat.le_of_ble_eq_true rfl, Nat.le_of_ble_eq_true rfl⟩) hw (fun H locs hw => ?_)
    refine lv_iload_n hx hb dX5_takes_12 rfl (lv_at hl 1 rfl) ?_
    refine lv_iload_n hx hb dX5_takes_13 rfl (lv_at hl 2 rfl) ?_
    refine hv_callir (va_runS (As := [.int (t_sg (σ.2 10) n9 s9.1), .int x, .int y]) (rest := []) ⟨hx, hb, hml, hown, hts⟩ (met_X5_isIn l G (t_sg (σ.2 10) n9 s9.1) x y ) (va_cwS 3 hts (lw_S q2666 q2667 q106 q2668) rfl rfl rfl (by decide +kernel) ⟨Nat.le_of_ble_eq_true rfl, Nat.le_of_ble_eq_true rfl⟩) (hv_preS hw) rfl rfl hl.1 rfl (lv_room (Nat.le_of_ble_eq_true rfl)) dX5_takes_14 ⟨Nat.le_of_ble_eq_true rfl, Nat.le_of_ble_eq_true rfl⟩) hw (fun H locs hw => ?_)
    refine lv_if_eq (tgt := 45) hx hb dX5_takes_17 (by decide) (fun c17 => ?_) (fun c17 => ?_)
    · skip
      have c17 : ¬ (x ≤ (t_sg (σ.2 10) n9 s9.1) ∧ (t_sg (σ.2 10) n9 s9.1) ≤ y) := b01_0.mp c17
      refine lv_aload_n hx hb dX5_takes_45 rfl (lv_at hl 0 rfl) ?_
      refine lv_aload_n hx hb dX5_takes_46 rfl (lv_at hl 0 rfl) ?_
      refine mo_get hx hb hts hown hw hM 20 (by decide) q2574 rfl (v := .int ((m_ts σ s9).1 20)) rfl dX5_takes_47 ?_
      refine lv_tope (y := s9.2) (m_ts_g20) ?_
      refine lv_iconst (v := (-1)) hx hb dX5_takes_50 (by decide) ?_
      refine lv_icmp_ne (tgt := 61) hx hb dX5_takes_51 (by decide) (fun c51 => ?_) (fun c51 => ?_)
      · skip
        refine lv_aload_n hx hb dX5_takes_61 rfl (lv_at hl 0 rfl) ?_
        refine mo_get hx hb hts hown hw hM 20 (by decide) q2574 rfl (v := .int ((m_ts σ s9).1 20)) rfl dX5_takes_62 ?_
        refine lv_tope (y := s9.2) (m_ts_g20) ?_
        refine mo_put hx hb hts hown hw hM hF 20 (by decide) rfl q2574 rfl rfl rfl rfl dX5_takes_65 (fun hh H locs hM hF hw => ?_)
        rw [m_ts_20] at hM
        have hM : isMod G hh o ma (m_ts σ (s9.1, s9.2)) := hM
        refine lv_iconst (v := 0) hx hb dX5_takes_68 (by decide) ?_
        exact hret rfl hw ⟨by unfold t_tk; rw [if_neg (fun z => c17 z.2)], by unfold t_tk; rw [if_neg (fun z => c17 z.2)]; rw [if_neg c51]; exact hM, hF⟩ (Nat.le_of_ble_eq_true rfl) (Nat.le_of_ble_eq_true rfl) dX5_takes_69
      · skip
        refine lv_aload_n hx hb dX5_takes_54 rfl (lv_at hl 0 rfl) ?_
        refine mo_get hx hb hts hown hw hM 19 (by decide) q2573 rfl (v := .int ((m_ts σ s9).1 19)) rfl dX5_takes_55 ?_
        refine lv_tope (y := nI s9.1) (m_ts_g19) ?_
        refine lv_goto (tgt := 65) hx hb dX5_takes_58 (by decide) ?_
        refine mo_put hx hb hts hown hw hM hF 20 (by decide) rfl q2574 rfl rfl rfl rfl dX5_takes_65 (fun hh H locs hM hF hw => ?_)
        rw [m_ts_20] at hM
        have hM : isMod G hh o ma (m_ts σ (s9.1, nI s9.1)) := hM
        refine lv_iconst (v := 0) hx hb dX5_takes_68 (by decide) ?_
        exact hret rfl hw ⟨by unfold t_tk; rw [if_neg (fun z => c17 z.2)], by unfold t_tk; rw [if_neg (fun z => c17 z.2)]; rw [if_pos c51]; exact hM, hF⟩ (Nat.le_of_ble_eq_true rfl) (Nat.le_of_ble_eq_true rfl) dX5_takes_69
    · skip
      have c17 : x ≤ (t_sg (σ.2 10) n9 s9.1) ∧ (t_sg (σ.2 10) n9 s9.1) ≤ y := b01_n.mp c17
      have hlt := t_sg_lt hlo c17.1
      refine lv_aload_n hx hb dX5_takes_20 rfl (lv_at hl 0 rfl) ?_
      refine lv_dup hx hb dX5_takes_21 rfl ?_
      refine mo_get hx hb hts hown hw hM 19 (by decide) q2573 rfl (v := .int ((m_ts σ s9).1 19)) rfl dX5_takes_22 ?_
      refine lv_tope (y := nI s9.1) (m_ts_g19) ?_
      refine lv_iconst (v := 1) hx hb dX5_takes_25 (by decide) ?_
      refine lv_iadd hx hb dX5_takes_26 ?_
      refine lv_tope (y := nI (s9.1 + 1)) (by simp only [nI, Int32.ofNat_add, Int32.ofNat_mul] <;> rfl) ?_
      refine mo_put hx hb hts hown hw hM hF 19 (by decide) rfl q2573 rfl rfl rfl rfl dX5_takes_27 (fun hh H locs hM hF hw => ?_)
      rw [m_ts_19] at hM
      have hM : isMod G hh o ma (m_ts σ (s9.1 + 1, s9.2)) := hM
      refine lv_aload_n hx hb dX5_takes_30 rfl (lv_at hl 0 rfl) ?_
      refine mo_get hx hb hts hown hw hM 10 (by decide) q2564 rfl (v := .ref (ma 10)) rfl dX5_takes_31 ?_
      refine lv_aload_n hx hb dX5_takes_34 rfl (lv_at hl 0 rfl) ?_
      refine mo_get hx hb hts hown hw hM 19 (by decide) q2573 rfl (v := .int ((m_ts σ (s9.1 + 1, s9.2)).1 19)) rfl dX5_takes_35 ?_
      refine lv_tope (y := nI (s9.1 + 1)) (m_ts_g19) ?_
      refine lv_iconst (v := 1) hx hb dX5_takes_38 (by decide) ?_
      refine lv_isub hx hb dX5_takes_39 ?_
      refine lv_tope (y := nI s9.1) (nI_pred _) ?_
      refine mo_ald hx hb hw hM 10 rfl (j := s9.1) rfl (show s9.1 < 60 by omega) dX5_takes_40 ?_
      refine lv_tope (y := σ.2 10 s9.1) (rfl) ?_
      refine lv_bipush (v := 48) hx hb dX5_takes_41 (by decide) ?_
      refine lv_isub hx hb dX5_takes_43 ?_
      exact hret rfl hw ⟨by unfold t_tk; rw [if_pos ⟨c5, c17⟩], by unfold t_tk; rw [if_pos ⟨c5, c17⟩]; exact hM, hF⟩ (Nat.le_of_ble_eq_true rfl) (Nat.le_of_ble_eq_true rfl) dX5_takes_44
set_option maxHeartbeats 400000 in
theorem met_X5_number (l : Launch) (G : hG) {h : hp} {o : Nat} {ma : Nat → Nat} {σ : MS} {n9 : Nat} {s9 : TS} (hM : isMod G h o ma (m_ts σ s9)) (x : Int32) (d : Nat) (hlo : 0 ≤ x) (hd : 1 ≤ d ∧ d ≤ 4) (hn9 : σ.1 18 = nI n9) (hn6 : n9 ≤ 60) (hs9 : s9.1 ≤ n9) : mo_Mi l G yX5_number (ws_ yX5_number cX5_number 6 (Option.some Jvm.ClassFile.FieldType.int)) ({ frames := 2, cells := 0, slots := 0, locals := 44 } : Room) [.ref o, .int x, .int (nI d)] h o ma ((t_num (σ.2 10) n9 s9 x d).2) (m_ts σ (t_num (σ.2 10) n9 s9 x d).1) := by
  refine hv_bi .int (Or.inl rfl) (own := RX5) (by decide +kernel) rfl (Nat.le_of_ble_eq_true rfl) (fun p e s m a below meth c ls Q hx hb hml hown hts hnm hret hw hl => ?_)
  have hl : lv_has ls 6 [(0, .ref o), (1, .int x), (2, .int (nI d))] := hl
  have hF : mo_fr o ma h h := mo_fr.rf
  refine lv_aload_n hx hb dX5_number_0 rfl (lv_at hl 0 rfl) ?_
  refine lv_iload_n hx hb dX5_number_1 rfl (lv_at hl 1 rfl) ?_
  refine lv_iload_n hx hb dX5_number_2 rfl (lv_at hl 1 rfl) ?_
  have hs_1 : (t_tk (σ.2 10) n9 s9 x x).1.1 ≤ n9 := t_tk_le (by first | decide | exact hlo) (show s9.1 ≤ n9 by omega)
  refine mo_calli (va_runV (As := [.int x, .int x]) (rest := []) ⟨hx, hb, hml, hown, hts⟩ (met_X5_takes l G hM x x hlo hn9 hn6 (show s9.1 ≤ n9 by omega)) (cwV 2 hts (lw_V q2967 q2969 qs87 q106 q2970) rfl rfl rfl (by decide +kernel) ⟨Nat.le_of_ble_eq_true rfl, Nat.le_of_ble_eq_true rfl⟩) (hv_preV hw pk_X5 hM.1) rfl rfl hl.1 rfl (lv_room (Nat.le_of_ble_eq_true rfl)) dX5_number_3 ⟨Nat.le_of_ble_eq_true rfl, Nat.le_of_ble_eq_true rfl⟩) hw hF (fun hh H locs hM hF hw => ?_)
  have hM : isMod G hh o ma (m_ts σ (t_tk (σ.2 10) n9 s9 x x).1) := hM
  refine lv_istore_n (lv' := [(3, .int ((t_tk (σ.2 10) n9 s9 x x).2)), (0, .ref o), (1, .int x), (2, .int (nI d))]) hx hb dX5_number_6 rfl hl (by decide) rfl (fun ls hl => ?_)
  refine lv_aload_n hx hb dX5_number_7 rfl (lv_at hl 1 rfl) ?_
  refine lv_bipush (v := 48) hx hb dX5_number_8 (by decide) ?_
  refine lv_bipush (v := 57) hx hb dX5_number_10 (by decide) ?_
  have hs_2 : (t_tk (σ.2 10) n9 ((t_tk (σ.2 10) n9 s9 x x).1) 48 57).1.1 ≤ n9 := t_tk_le (by first | decide | exact hlo) (show ((t_tk (σ.2 10) n9 s9 x x).1).1 ≤ n9 by omega)
  refine mo_calli (va_runV (As := [.int 48, .int 57]) (rest := []) ⟨hx, hb, hml, hown, hts⟩ (met_X5_takes l G hM 48 57 (by decide) hn9 hn6 (show ((t_tk (σ.2 10) n9 s9 x x).1).1 ≤ n9 by omega)) (cwV 2 hts (lw_V q2967 q2969 qs87 q106 q2970) rfl rfl rfl (by decide +kernel) ⟨Nat.le_of_ble_eq_true rfl, Nat.le_of_ble_eq_true rfl⟩) (hv_preV hw pk_X5 hM.1) rfl rfl hl.1 rfl (lv_room (Nat.le_of_ble_eq_true rfl)) dX5_number_12 ⟨Nat.le_of_ble_eq_true rfl, Nat.le_of_ble_eq_true rfl⟩) hw hF (fun hh H locs hM hF hw => ?_)
  have hM : isMod G hh o ma (m_ts σ (t_tk (σ.2 10) n9 ((t_tk (σ.2 10) n9 s9 x x).1) 48 57).1) := hM
  refine lv_istore (lv' := [(4, .int ((t_tk (σ.2 10) n9 ((t_tk (σ.2 10) n9 s9 x x).1) 48 57).2)), (3, .int ((t_tk (σ.2 10) n9 s9 x x).2)), (0, .ref o), (1, .int x), (2, .int (nI d))]) hx hb dX5_number_15 hl (by decide) rfl (fun ls hl => ?_)
  refine lv_iconst (v := 1) hx hb dX5_number_17 (by decide) ?_
  refine lv_istore (lv' := [(5, .int 1), (4, .int ((t_tk (σ.2 10) n9 ((t_tk (σ.2 10) n9 s9 x x).1) 48 57).2)), (3, .int ((t_tk (σ.2 10) n9 s9 x x).2)), (0, .ref o), (1, .int x), (2, .int (nI d))]) hx hb dX5_number_18 hl (by decide) rfl (fun ls hl => ?_)
  have hR : t_nl (σ.2 10) n9 (d - 1) ((t_tk (σ.2 10) n9 ((t_tk (σ.2 10) n9 s9 x x).1) 48 57).1, (t_tk (σ.2 10) n9 ((t_tk (σ.2 10) n9 s9 x x).1) 48 57).2) = t_num (σ.2 10) n9 s9 x d := rfl
  have LP20 : ∀ (n20 : Nat) (k : Nat) (s8 : TS) (v9 : Int32) (u9 : Int32) (hh : hp) (H : Heap) (locs : List Loc) (ls : Array Slot), d - k < n20 → 1 ≤ k ∧ k ≤ 9 → s8.1 ≤ n9 → t_nl (σ.2 10) n9 (d - k) (s8, v9) = t_num (σ.2 10) n9 s9 x d → isMod G hh o ma (m_ts σ s8) → mo_fr o ma h hh → hv_W G s hh H locs → lv_has ls 6 [(5, .int (nI k)), (4, .int v9), (3, .int u9), (0, .ref o), (1, .int x), (2, .int (nI d))] → W p l e ({ frames := 2, cells := 0, slots := 0, locals := 44 } : Room) s m a below meth c H locs 0 0 Q (F0 m 20 ls []) := by
    intro n20
    induction n20 with
    | zero => exact fun k s8 v9 u9 hh H locs ls hmu20 => absurd hmu20 (Nat.not_lt_zero _)
    | succ n20 ih20 =>
      intro k s8 v9 u9 hh H locs ls hmu20 hk1 hs8 hR hM hF hw hl
      refine lv_iload hx hb dX5_number_20 (lv_at hl 0 rfl) ?_
      refine lv_iload_n hx hb dX5_number_22 rfl (lv_at hl 5 rfl) ?_
      refine lv_icmp_ge (tgt := 70) hx hb dX5_number_23 (by decide) (fun c23 => ?_) (fun c23 => ?_)
      · skip
        have hkd : d ≤ k := cmp_le c23 rfl rfl (by omega) (by omega)
        have hZ : t_nl (σ.2 10) n9 (d - k) (s8, v9) = (s8, v9) := by rw [show d - k = 0 by omega]; rfl
        refine lv_iload hx hb dX5_number_70 (lv_at hl 1 rfl) ?_
        exact hret rfl hw ⟨by rw [← hR, hZ], by rw [← hR, hZ]; exact hM, hF⟩ (Nat.le_of_ble_eq_true rfl) (Nat.le_of_ble_eq_true rfl) dX5_number_72
      · skip
        have hkd : k < d := cmp_nle c23 rfl rfl (by omega) (by omega)
        refine lv_aload_n hx hb dX5_number_26 rfl (lv_at hl 3 rfl) ?_
        refine mo_get hx hb hts hown hw hM 20 (by decide) q2574 rfl (v := .int ((m_ts σ s8).1 20)) rfl dX5_number_27 ?_
        refine lv_tope (y := s8.2) (m_ts_g20) ?_
        refine lv_iconst (v := (-1)) hx hb dX5_number_30 (by decide) ?_
        refine lv_icmp_ne (tgt := 70) hx hb dX5_number_31 (by decide) (fun c31 => ?_) (fun c31 => ?_)
        · skip
          have hZ : t_nl (σ.2 10) n9 (d - k) (s8, v9) = (s8, v9) := t_nl_no (fun z => c31 z.1)
          refine lv_iload hx hb dX5_number_70 (lv_at hl 1 rfl) ?_
          exact hret rfl hw ⟨by rw [← hR, hZ], by rw [← hR, hZ]; exact hM, hF⟩ (Nat.le_of_ble_eq_true rfl) (Nat.le_of_ble_eq_true rfl) dX5_number_72
        · skip
          refine lv_aload_n hx hb dX5_number_34 rfl (lv_at hl 3 rfl) ?_
          refine hv_callir (va_runV (As := []) (rest := []) ⟨hx, hb, hml, hown, hts⟩ (met_X5_sign l G hM   hn9 hn6 (show s8.1 ≤ n9 by omega)) (cwV 0 hts (lw_V q2971 q2973 qs88 q106 q2974) rfl rfl rfl (by decide +kernel) ⟨Nat.le_of_ble_eq_true rfl, Nat.le_of_ble_eq_true rfl⟩) (hv_preV hw pk_X5 hM.1) rfl rfl hl.1 rfl (lv_room (Nat.le_of_ble_eq_true rfl)) dX5_number_35 ⟨Nat.le_of_ble_eq_true rfl, Nat.le_of_ble_eq_true rfl⟩) hw (fun H locs hw => ?_)
          refine lv_bipush (v := 48) hx hb dX5_number_38 (by decide) ?_
          refine lv_bipush (v := 57) hx hb dX5_number_40 (by decide) ?_
          refine hv_callir (va_runS (As := [.int (t_sg (σ.2 10) n9 s8.1), .int 48, .int 57]) (rest := []) ⟨hx, hb, hml, hown, hts⟩ (met_X5_isIn l G (t_sg (σ.2 10) n9 s8.1) 48 57 ) (va_cwS 3 hts (lw_S q2666 q2667 q106 q2668) rfl rfl rfl (by decide +kernel) ⟨Nat.le_of_ble_eq_true rfl, Nat.le_of_ble_eq_true rfl⟩) (hv_preS hw) rfl rfl hl.1 rfl (lv_room (Nat.le_of_ble_eq_true rfl)) dX5_number_42 ⟨Nat.le_of_ble_eq_true rfl, Nat.le_of_ble_eq_true rfl⟩) hw (fun H locs hw => ?_)
          refine lv_if_eq (tgt := 70) hx hb dX5_number_45 (by decide) (fun c45 => ?_) (fun c45 => ?_)
          · skip
            have c45 : ¬ (48 ≤ (t_sg (σ.2 10) n9 s8.1) ∧ (t_sg (σ.2 10) n9 s8.1) ≤ 57) := b01_0.mp c45
            have hZ : t_nl (σ.2 10) n9 (d - k) (s8, v9) = (s8, v9) := t_nl_no (fun z => c45 z.2)
            refine lv_iload hx hb dX5_number_70 (lv_at hl 1 rfl) ?_
            exact hret rfl hw ⟨by rw [← hR, hZ], by rw [← hR, hZ]; exact hM, hF⟩ (Nat.le_of_ble_eq_true rfl) (Nat.le_of_ble_eq_true rfl) dX5_number_72
          · skip
            have c45 : 48 ≤ (t_sg (σ.2 10) n9 s8.1) ∧ (t_sg (σ.2 10) n9 s8.1) ≤ 57 := b01_n.mp c45
            have hS : t_nl (σ.2 10) n9 (d - k) (s8, v9) = t_nl (σ.2 10) n9 (d - (k + 1)) ((t_tk (σ.2 10) n9 s8 48 57).1, 10 * v9 + (t_tk (σ.2 10) n9 s8 48 57).2) := by rw [show d - k = (d - (k + 1)) + 1 by omega]; exact if_pos ⟨c31, c45⟩
            refine lv_bipush (v := 10) hx hb dX5_number_48 (by decide) ?_
            refine lv_iload hx hb dX5_number_50 (lv_at hl 1 rfl) ?_
            refine lv_imul hx hb dX5_number_52 ?_
            refine lv_aload_n hx hb dX5_number_53 rfl (lv_at hl 3 rfl) ?_
            refine lv_bipush (v := 48) hx hb dX5_number_54 (by decide) ?_
            refine lv_bipush (v := 57) hx hb dX5_number_56 (by decide) ?_
            have hs_3 : (t_tk (σ.2 10) n9 s8 48 57).1.1 ≤ n9 := t_tk_le (by first | decide | exact hlo) (show s8.1 ≤ n9 by omega)
            refine mo_calli (va_runV (As := [.int 48, .int 57]) (rest := [.int (10 * v9)]) ⟨hx, hb, hml, hown, hts⟩ (met_X5_takes l G hM 48 57 (by decide) hn9 hn6 (show s8.1 ≤ n9 by omega)) (cwV 2 hts (lw_V q2967 q2969 qs87 q106 q2970) rfl rfl rfl (by decide +kernel) ⟨Nat.le_of_ble_eq_true rfl, Nat.le_of_ble_eq_true rfl⟩) (hv_preV hw pk_X5 hM.1) rfl rfl hl.1 rfl (lv_room (Nat.le_of_ble_eq_true rfl)) dX5_number_58 ⟨Nat.le_of_ble_eq_true rfl, Nat.le_of_ble_eq_true rfl⟩) hw hF (fun hh H locs hM hF hw => ?_)
            have hM : isMod G hh o ma (m_ts σ (t_tk (σ.2 10) n9 s8 48 57).1) := hM
            refine lv_iadd hx hb dX5_number_61 ?_
            refine lv_istore (lv' := [(4, .int ((10 * v9) + ((t_tk (σ.2 10) n9 s8 48 57).2))), (5, .int (nI k)), (3, .int u9), (0, .ref o), (1, .int x), (2, .int (nI d))]) hx hb dX5_number_62 hl (by decide) rfl (fun ls hl => ?_)
            refine lv_iinc (v := nI (k + 1)) (lv' := [(5, .int (nI (k + 1))), (4, .int ((10 * v9) + ((t_tk (σ.2 10) n9 s8 48 57).2))), (3, .int u9), (0, .ref o), (1, .int x), (2, .int (nI d))]) hx hb dX5_number_64 hl (k := 1) rfl (by simp only [nI, Int32.ofNat_add] <;> rfl) (by decide) rfl (fun ls hl => ?_)
            refine lv_goto (tgt := 20) hx hb dX5_number_67 (by decide) ?_
            exact ih20 (k + 1) ((t_tk (σ.2 10) n9 s8 48 57).1) ((10 * v9) + ((t_tk (σ.2 10) n9 s8 48 57).2)) u9 _ _ _ _ (by omega) (by omega) (t_tk_le (by decide) hs8) (hS.symm.trans hR) hM hF hw (lv_sub hl [0, 1, 2, 3, 4, 5] rfl)
  exact LP20 _ 1 ((t_tk (σ.2 10) n9 ((t_tk (σ.2 10) n9 s9 x x).1) 48 57).1) ((t_tk (σ.2 10) n9 ((t_tk (σ.2 10) n9 s9 x x).1) 48 57).2) ((t_tk (σ.2 10) n9 s9 x x).2) _ _ _ _ (Nat.lt_succ_self _) (by omega) (t_tk_le (by decide) (t_tk_le hlo hs9)) (hR) hM hF hw (lv_sub hl [0, 1, 2, 3, 4, 5] rfl)
set_option maxHeartbeats 2000000 in
theorem met_X5_word (l : Launch) (G : hG) {h : hp} {o : Nat} {ma : Nat → Nat} {σ : MS} {n9 : Nat} {s9 : TS} (hM : isMod G h o ma (m_ts σ s9))  (hC : hv_C G) (hwr : s9.2 = -1) (hn9 : σ.1 18 = nI n9) (hn6 : n9 ≤ 60) (hs9 : s9.1 ≤ n9) : mo_Mi l G yX5_word (ws_ yX5_word cX5_word 6 (Option.some Jvm.ClassFile.FieldType.int)) ({ frames := 4, cells := 0, slots := 0, locals := 85 } : Room) [.ref o] h o ma (nI (t_word (σ.2 10) n9 s9).2) (m_ts σ (t_word (σ.2 10) n9 s9).1) := by
  refine hv_bi .int (Or.inl rfl) (own := RX5) (by decide +kernel) rfl (Nat.le_of_ble_eq_true rfl) (fun p e s m a below meth c ls Q hx hb hml hown hts hnm hret hw hl => ?_)
  have hl : lv_has ls 6 [(0, .ref o)] := hl
  have hF : mo_fr o ma h h := mo_fr.rf
  refine lv_aload_n hx hb dX5_word_0 rfl (lv_at hl 0 rfl) ?_
  refine mo_get hx hb hts hown hw hM 20 (by decide) q2574 rfl (v := .int ((m_ts σ s9).1 20)) rfl dX5_word_1 ?_
  refine lv_tope (y := s9.2) (m_ts_g20) ?_
  refine lv_iconst (v := (-1)) hx hb dX5_word_4 (by decide) ?_
  refine lv_icmp_eq (tgt := 11) hx hb dX5_word_5 (by decide) (fun c5 => ?_) (fun c5 => absurd (hwr) c5)
  refine lv_aload_n hx hb dX5_word_11 rfl (lv_at hl 0 rfl) ?_
  refine mo_get hx hb hts hown hw hM 19 (by decide) q2573 rfl (v := .int ((m_ts σ s9).1 19)) rfl dX5_word_12 ?_
  refine lv_tope (y := nI s9.1) (m_ts_g19) ?_
  refine lv_istore_n (lv' := [(1, .int (nI s9.1)), (0, .ref o)]) hx hb dX5_word_15 rfl hl (by decide) rfl (fun ls hl => ?_)
  refine lv_iconst (v := (-1)) hx hb dX5_word_16 (by decide) ?_
  refine lv_istore_n (lv' := [(2, .int (-1)), (1, .int (nI s9.1)), (0, .ref o)]) hx hb dX5_word_17 rfl hl (by decide) rfl (fun ls hl => ?_)
  refine lv_iconst (v := 0) hx hb dX5_word_18 (by decide) ?_
  refine lv_istore_n (lv' := [(3, .int 0), (2, .int (-1)), (1, .int (nI s9.1)), (0, .ref o)]) hx hb dX5_word_19 rfl hl (by decide) rfl (fun ls hl => ?_)
  have LP20 : ∀ (n20 : Nat) (k : Nat) (H : Heap) (locs : List Loc) (ls : Array Slot), 9 - k < n20 → k ≤ 8 → hv_W G s h H locs → lv_has ls 6 [(3, .int (nI k)), (2, .int ((t_wd (σ.2 10) n9 s9.1 k).2)), (1, .int (nI (t_wd (σ.2 10) n9 s9.1 k).1)), (0, .ref o)] → W p l e ({ frames := 4, cells := 0, slots := 0, locals := 85 } : Room) s m a below meth c H locs 0 0 Q (F0 m 20 ls []) := by
    intro n20
    induction n20 with
    | zero => exact fun k H locs ls hmu20 => absurd hmu20 (Nat.not_lt_zero _)
    | succ n20 ih20 =>
      intro k H locs ls hmu20 hk8 hw hl
      refine lv_iload_n hx hb dX5_word_20 rfl (lv_at hl 0 rfl) ?_
      refine lv_bipush (v := 8) hx hb dX5_word_21 (by decide) ?_
      refine lv_icmp_ge (tgt := 132) hx hb dX5_word_23 (by decide) (fun c23 => ?_) (fun c23 => ?_)
      · skip
        have hk9 : 8 ≤ k := cmp_le (a := 8) c23 rfl rfl (by omega) (by omega)
        obtain rfl : k = 8 := by omega
        refine lv_aload_n hx hb dX5_word_132 rfl (lv_at hl 3 rfl) ?_
        refine lv_iload_n hx hb dX5_word_133 rfl (lv_at hl 1 rfl) ?_
        refine lv_iconst (v := (-1)) hx hb dX5_word_134 (by decide) ?_
        refine lv_icmp_ne (tgt := 142) hx hb dX5_word_135 (by decide) (fun c135 => ?_) (fun c135 => ?_)
        · skip
          obtain ⟨f, hf, e2, e3⟩ := (t_wd_ix (T := σ.2 10) (n := n9) (a := s9.1) 8).resolve_left c135
          have hfn : ¬ nI f = -1 := by rw [← e2]; exact c135
          rw [e2] at hl
          have hln := t_wl_n (T := σ.2 10) (w := f) hs9
          rw [e3] at hln
          refine lv_aload_n hx hb dX5_word_142 rfl (lv_at hl 3 rfl) ?_
          refine mo_get hx hb hts hown hw hM 20 (by decide) q2574 rfl (v := .int ((m_ts σ s9).1 20)) rfl dX5_word_143 ?_
          refine lv_tope (y := s9.2) (m_ts_g20) ?_
          refine mo_put hx hb hts hown hw hM hF 20 (by decide) rfl q2574 rfl rfl rfl rfl dX5_word_146 (fun hh H locs hM hF hw => ?_)
          rw [m_ts_20] at hM
          have hM : isMod G hh o ma (m_ts σ (s9.1, s9.2)) := hM
          refine lv_aload_n hx hb dX5_word_149 rfl (lv_at hl 3 rfl) ?_
          refine lv_dup hx hb dX5_word_150 rfl ?_
          refine mo_get hx hb hts hown hw hM 19 (by decide) q2573 rfl (v := .int ((m_ts σ (s9.1, s9.2)).1 19)) rfl dX5_word_151 ?_
          refine lv_tope (y := nI s9.1) (m_ts_g19) ?_
          refine lv_iload_n hx hb dX5_word_154 rfl (lv_at hl 1 rfl) ?_
          refine lv_iconst (v := (-1)) hx hb dX5_word_155 (by decide) ?_
          refine lv_icmp_ne (tgt := 163) hx hb dX5_word_156 (by decide) (fun c156 => ?_) (fun c156 => absurd c156 (hfn))
          refine lv_iload_n hx hb dX5_word_163 rfl (lv_at hl 1 rfl) ?_
          refine lv_iconst (v := 1) hx hb dX5_word_164 (by decide) ?_
          refine lv_iadd hx hb dX5_word_165 ?_
          refine lv_tope (y := nI (f + 1)) (by simp only [nI, Int32.ofNat_add, Int32.ofNat_mul] <;> rfl) ?_
          refine hv_callir (va_runS (As := [.int (nI (f + 1))]) (rest := [.int (nI s9.1), .ref o]) ⟨hx, hb, hml, hown, hts⟩ (met_X5_begin l G (f + 1) (show (f + 1) ≤ 8 by omega)) (va_cwS 1 hts (lw_S q2958 q2959 q106 q2960) rfl rfl rfl (by decide +kernel) ⟨Nat.le_of_ble_eq_true rfl, Nat.le_of_ble_eq_true rfl⟩) (hv_preS hw) rfl rfl hl.1 rfl (lv_room (Nat.le_of_ble_eq_true rfl)) dX5_word_166 ⟨Nat.le_of_ble_eq_true rfl, Nat.le_of_ble_eq_true rfl⟩) hw (fun H locs hw => ?_)
          refine lv_iload_n hx hb dX5_word_169 rfl (lv_at hl 1 rfl) ?_
          refine hv_callir (va_runS (As := [.int (nI f)]) (rest := [.int (nI (o_beg (f + 1))), .int (nI s9.1), .ref o]) ⟨hx, hb, hml, hown, hts⟩ (met_X5_begin l G f (show f ≤ 8 by omega)) (va_cwS 1 hts (lw_S q2958 q2959 q106 q2960) rfl rfl rfl (by decide +kernel) ⟨Nat.le_of_ble_eq_true rfl, Nat.le_of_ble_eq_true rfl⟩) (hv_preS hw) rfl rfl hl.1 rfl (lv_room (Nat.le_of_ble_eq_true rfl)) dX5_word_170 ⟨Nat.le_of_ble_eq_true rfl, Nat.le_of_ble_eq_true rfl⟩) hw (fun H locs hw => ?_)
          refine lv_isub hx hb dX5_word_173 ?_
          refine lv_tope (y := nI (t_wn f)) (o_wn f hf) ?_
          refine lv_iadd hx hb dX5_word_174 ?_
          refine lv_tope (y := nI (s9.1 + t_wn f)) (by simp only [nI, Int32.ofNat_add, Int32.ofNat_mul] <;> rfl) ?_
          refine mo_put hx hb hts hown hw hM hF 19 (by decide) rfl q2573 rfl rfl rfl rfl dX5_word_175 (fun hh H locs hM hF hw => ?_)
          rw [m_ts_19] at hM
          have hM : isMod G hh o ma (m_ts σ (s9.1 + t_wn f, s9.2)) := hM
          refine lv_iload_n hx hb dX5_word_178 rfl (lv_at hl 1 rfl) ?_
          refine lv_iconst (v := (-1)) hx hb dX5_word_179 (by decide) ?_
          refine lv_icmp_ne (tgt := 188) hx hb dX5_word_180 (by decide) (fun c180 => ?_) (fun c180 => absurd c180 (hfn))
          refine lv_iload_n hx hb dX5_word_188 rfl (lv_at hl 1 rfl) ?_
          exact hret rfl hw ⟨by unfold t_word; rw [if_neg c135, e2, o_n_nI (show f < 2 ^ 31 by omega)], by unfold t_word; rw [if_neg c135, e2, o_n_nI (show f < 2 ^ 31 by omega)]; exact hM, hF⟩ (Nat.le_of_ble_eq_true rfl) (Nat.le_of_ble_eq_true rfl) dX5_word_189
        · skip
          have hwd := t_wd_n (T := σ.2 10) hs9 8
          refine lv_iload_n hx hb dX5_word_138 rfl (lv_at hl 2 rfl) ?_
          refine lv_goto (tgt := 146) hx hb dX5_word_139 (by decide) ?_
          refine mo_put hx hb hts hown hw hM hF 20 (by decide) rfl q2574 rfl rfl rfl rfl dX5_word_146 (fun hh H locs hM hF hw => ?_)
          rw [m_ts_20] at hM
          have hM : isMod G hh o ma (m_ts σ (s9.1, nI (t_wd (σ.2 10) n9 s9.1 8).1)) := hM
          refine lv_aload_n hx hb dX5_word_149 rfl (lv_at hl 3 rfl) ?_
          refine lv_dup hx hb dX5_word_150 rfl ?_
          refine mo_get hx hb hts hown hw hM 19 (by decide) q2573 rfl (v := .int ((m_ts σ (s9.1, nI (t_wd (σ.2 10) n9 s9.1 8).1)).1 19)) rfl dX5_word_151 ?_
          refine lv_tope (y := nI s9.1) (m_ts_g19) ?_
          refine lv_iload_n hx hb dX5_word_154 rfl (lv_at hl 1 rfl) ?_
          refine lv_iconst (v := (-1)) hx hb dX5_word_155 (by decide) ?_
          refine lv_icmp_ne (tgt := 163) hx hb dX5_word_156 (by decide) (fun c156 => absurd (c135) c156) (fun c156 => ?_)
          refine lv_iconst (v := 0) hx hb dX5_word_159 (by decide) ?_
          refine lv_goto (tgt := 174) hx hb dX5_word_160 (by decide) ?_
          refine lv_iadd hx hb dX5_word_174 ?_
          refine lv_tope (y := nI (s9.1 + 0)) (by simp only [nI, Int32.ofNat_add, Int32.ofNat_mul] <;> rfl) ?_
          refine mo_put hx hb hts hown hw hM hF 19 (by decide) rfl q2573 rfl rfl rfl rfl dX5_word_175 (fun hh H locs hM hF hw => ?_)
          rw [m_ts_19] at hM
          have hM : isMod G hh o ma (m_ts σ (s9.1 + 0, nI (t_wd (σ.2 10) n9 s9.1 8).1)) := hM
          refine lv_iload_n hx hb dX5_word_178 rfl (lv_at hl 1 rfl) ?_
          refine lv_iconst (v := (-1)) hx hb dX5_word_179 (by decide) ?_
          refine lv_icmp_ne (tgt := 188) hx hb dX5_word_180 (by decide) (fun c180 => absurd (c135) c180) (fun c180 => ?_)
          refine lv_bipush (v := 7) hx hb dX5_word_183 (by decide) ?_
          refine lv_goto (tgt := 189) hx hb dX5_word_185 (by decide) ?_
          exact hret rfl hw ⟨by unfold t_word; rw [if_pos c135]; rfl, by unfold t_word; rw [if_pos c135]; exact hM, hF⟩ (Nat.le_of_ble_eq_true rfl) (Nat.le_of_ble_eq_true rfl) dX5_word_189
      · skip
        have hk9 : k < 8 := cmp_nle (a := 8) c23 rfl rfl (by omega) (by omega)
        have hbg := o_beg_s k hk9
        have hwn := t_wn_36 k hk9
        have hwd := t_wd_n (T := σ.2 10) hs9 k
        refine lv_iload_n hx hb dX5_word_26 rfl (lv_at hl 1 rfl) ?_
        refine lv_iconst (v := (-1)) hx hb dX5_word_27 (by decide) ?_
        refine lv_icmp_ne (tgt := 132) hx hb dX5_word_28 (by decide) (fun c28 => ?_) (fun c28 => ?_)
        · skip
          have he : (t_wd (σ.2 10) n9 s9.1 8) = (t_wd (σ.2 10) n9 s9.1 k) := by have h9 := t_wd_up c28 (8 - k); rw [show k + (8 - k) = 8 by omega] at h9; exact h9
          rw [← he] at hl
          refine lv_aload_n hx hb dX5_word_132 rfl (lv_at hl 3 rfl) ?_
          refine lv_iload_n hx hb dX5_word_133 rfl (lv_at hl 1 rfl) ?_
          refine lv_iconst (v := (-1)) hx hb dX5_word_134 (by decide) ?_
          refine lv_icmp_ne (tgt := 142) hx hb dX5_word_135 (by decide) (fun c135 => ?_) (fun c135 => ?_)
          · skip
            obtain ⟨f, hf, e2, e3⟩ := (t_wd_ix (T := σ.2 10) (n := n9) (a := s9.1) 8).resolve_left c135
            have hfn : ¬ nI f = -1 := by rw [← e2]; exact c135
            rw [e2] at hl
            have hln := t_wl_n (T := σ.2 10) (w := f) hs9
            rw [e3] at hln
            refine lv_aload_n hx hb dX5_word_142 rfl (lv_at hl 3 rfl) ?_
            refine mo_get hx hb hts hown hw hM 20 (by decide) q2574 rfl (v := .int ((m_ts σ s9).1 20)) rfl dX5_word_143 ?_
            refine lv_tope (y := s9.2) (m_ts_g20) ?_
            refine mo_put hx hb hts hown hw hM hF 20 (by decide) rfl q2574 rfl rfl rfl rfl dX5_word_146 (fun hh H locs hM hF hw => ?_)
            rw [m_ts_20] at hM
            have hM : isMod G hh o ma (m_ts σ (s9.1, s9.2)) := hM
            refine lv_aload_n hx hb dX5_word_149 rfl (lv_at hl 3 rfl) ?_
            refine lv_dup hx hb dX5_word_150 rfl ?_
            refine mo_get hx hb hts hown hw hM 19 (by decide) q2573 rfl (v := .int ((m_ts σ (s9.1, s9.2)).1 19)) rfl dX5_word_151 ?_
            refine lv_tope (y := nI s9.1) (m_ts_g19) ?_
            refine lv_iload_n hx hb dX5_word_154 rfl (lv_at hl 1 rfl) ?_
            refine lv_iconst (v := (-1)) hx hb dX5_word_155 (by decide) ?_
            refine lv_icmp_ne (tgt := 163) hx hb dX5_word_156 (by decide) (fun c156 => ?_) (fun c156 => absurd c156 (hfn))
            refine lv_iload_n hx hb dX5_word_163 rfl (lv_at hl 1 rfl) ?_
            refine lv_iconst (v := 1) hx hb dX5_word_164 (by decide) ?_
            refine lv_iadd hx hb dX5_word_165 ?_
            refine lv_tope (y := nI (f + 1)) (by simp only [nI, Int32.ofNat_add, Int32.ofNat_mul] <;> rfl) ?_
            refine hv_callir (va_runS (As := [.int (nI (f + 1))]) (rest := [.int (nI s9.1), .ref o]) ⟨hx, hb, hml, hown, hts⟩ (met_X5_begin l G (f + 1) (show (f + 1) ≤ 8 by omega)) (va_cwS 1 hts (lw_S q2958 q2959 q106 q2960) rfl rfl rfl (by decide +kernel) ⟨Nat.le_of_ble_eq_true rfl, Nat.le_of_ble_eq_true rfl⟩) (hv_preS hw) rfl rfl hl.1 rfl (lv_room (Nat.le_of_ble_eq_true rfl)) dX5_word_166 ⟨Nat.le_of_ble_eq_true rfl, Nat.le_of_ble_eq_true rfl⟩) hw (fun H locs hw => ?_)
            refine lv_iload_n hx hb dX5_word_169 rfl (lv_at hl 1 rfl) ?_
            refine hv_callir (va_runS (As := [.int (nI f)]) (rest := [.int (nI (o_beg (f + 1))), .int (nI s9.1), .ref o]) ⟨hx, hb, hml, hown, hts⟩ (met_X5_begin l G f (show f ≤ 8 by omega)) (va_cwS 1 hts (lw_S q2958 q2959 q106 q2960) rfl rfl rfl (by decide +kernel) ⟨Nat.le_of_ble_eq_true rfl, Nat.le_of_ble_eq_true rfl⟩) (hv_preS hw) rfl rfl hl.1 rfl (lv_room (Nat.le_of_ble_eq_true rfl)) dX5_word_170 ⟨Nat.le_of_ble_eq_true rfl, Nat.le_of_ble_eq_true rfl⟩) hw (fun H locs hw => ?_)
            refine lv_isub hx hb dX5_word_173 ?_
            refine lv_tope (y := nI (t_wn f)) (o_wn f hf) ?_
            refine lv_iadd hx hb dX5_word_174 ?_
            refine lv_tope (y := nI (s9.1 + t_wn f)) (by simp only [nI, Int32.ofNat_add, Int32.ofNat_mul] <;> rfl) ?_
            refine mo_put hx hb hts hown hw hM hF 19 (by decide) rfl q2573 rfl rfl rfl rfl dX5_word_175 (fun hh H locs hM hF hw => ?_)
            rw [m_ts_19] at hM
            have hM : isMod G hh o ma (m_ts σ (s9.1 + t_wn f, s9.2)) := hM
            refine lv_iload_n hx hb dX5_word_178 rfl (lv_at hl 1 rfl) ?_
            refine lv_iconst (v := (-1)) hx hb dX5_word_179 (by decide) ?_
            refine lv_icmp_ne (tgt := 188) hx hb dX5_word_180 (by decide) (fun c180 => ?_) (fun c180 => absurd c180 (hfn))
            refine lv_iload_n hx hb dX5_word_188 rfl (lv_at hl 1 rfl) ?_
            exact hret rfl hw ⟨by unfold t_word; rw [if_neg c135, e2, o_n_nI (show f < 2 ^ 31 by omega)], by unfold t_word; rw [if_neg c135, e2, o_n_nI (show f < 2 ^ 31 by omega)]; exact hM, hF⟩ (Nat.le_of_ble_eq_true rfl) (Nat.le_of_ble_eq_true rfl) dX5_word_189
          · skip
            have hwd := t_wd_n (T := σ.2 10) hs9 8
            refine lv_iload_n hx hb dX5_word_138 rfl (lv_at hl 2 rfl) ?_
            refine lv_goto (tgt := 146) hx hb dX5_word_139 (by decide) ?_
            refine mo_put hx hb hts hown hw hM hF 20 (by decide) rfl q2574 rfl rfl rfl rfl dX5_word_146 (fun hh H locs hM hF hw => ?_)
            rw [m_ts_20] at hM
            have hM : isMod G hh o ma (m_ts σ (s9.1, nI (t_wd (σ.2 10) n9 s9.1 8).1)) := hM
            refine lv_aload_n hx hb dX5_word_149 rfl (lv_at hl 3 rfl) ?_
            refine lv_dup hx hb dX5_word_150 rfl ?_
            refine mo_get hx hb hts hown hw hM 19 (by decide) q2573 rfl (v := .int ((m_ts σ (s9.1, nI (t_wd (σ.2 10) n9 s9.1 8).1)).1 19)) rfl dX5_word_151 ?_
            refine lv_tope (y := nI s9.1) (m_ts_g19) ?_
            refine lv_iload_n hx hb dX5_word_154 rfl (lv_at hl 1 rfl) ?_
            refine lv_iconst (v := (-1)) hx hb dX5_word_155 (by decide) ?_
            refine lv_icmp_ne (tgt := 163) hx hb dX5_word_156 (by decide) (fun c156 => absurd (c135) c156) (fun c156 => ?_)
            refine lv_iconst (v := 0) hx hb dX5_word_159 (by decide) ?_
            refine lv_goto (tgt := 174) hx hb dX5_word_160 (by decide) ?_
            refine lv_iadd hx hb dX5_word_174 ?_
            refine lv_tope (y := nI (s9.1 + 0)) (by simp only [nI, Int32.ofNat_add, Int32.ofNat_mul] <;> rfl) ?_
            refine mo_put hx hb hts hown hw hM hF 19 (by decide) rfl q2573 rfl rfl rfl rfl dX5_word_175 (fun hh H locs hM hF hw => ?_)
            rw [m_ts_19] at hM
            have hM : isMod G hh o ma (m_ts σ (s9.1 + 0, nI (t_wd (σ.2 10) n9 s9.1 8).1)) := hM
            refine lv_iload_n hx hb dX5_word_178 rfl (lv_at hl 1 rfl) ?_
            refine lv_iconst (v := (-1)) hx hb dX5_word_179 (by decide) ?_
            refine lv_icmp_ne (tgt := 188) hx hb dX5_word_180 (by decide) (fun c180 => absurd (c135) c180) (fun c180 => ?_)
            refine lv_bipush (v := 7) hx hb dX5_word_183 (by decide) ?_
            refine lv_goto (tgt := 189) hx hb dX5_word_185 (by decide) ?_
            exact hret rfl hw ⟨by unfold t_word; rw [if_pos c135]; rfl, by unfold t_word; rw [if_pos c135]; exact hM, hF⟩ (Nat.le_of_ble_eq_true rfl) (Nat.le_of_ble_eq_true rfl) dX5_word_189
        · skip
          have hw1 : (t_wd (σ.2 10) n9 s9.1 (k + 1)) = (Nat.max (t_wd (σ.2 10) n9 s9.1 k).1 (s9.1 + t_wl (σ.2 10) n9 s9.1 k), if t_wl (σ.2 10) n9 s9.1 k = t_wn k then nI k else -1) := if_pos c28
          have hln := t_wl_n (T := σ.2 10) (w := k) hs9
          refine lv_iload_n hx hb dX5_word_31 rfl (lv_at hl 0 rfl) ?_
          refine lv_iconst (v := 1) hx hb dX5_word_32 (by decide) ?_
          refine lv_iadd hx hb dX5_word_33 ?_
          refine lv_tope (y := nI (k + 1)) (by simp only [nI, Int32.ofNat_add, Int32.ofNat_mul] <;> rfl) ?_
          refine hv_callir (va_runS (As := [.int (nI (k + 1))]) (rest := []) ⟨hx, hb, hml, hown, hts⟩ (met_X5_begin l G (k + 1) (show (k + 1) ≤ 8 by omega)) (va_cwS 1 hts (lw_S q2958 q2959 q106 q2960) rfl rfl rfl (by decide +kernel) ⟨Nat.le_of_ble_eq_true rfl, Nat.le_of_ble_eq_true rfl⟩) (hv_preS hw) rfl rfl hl.1 rfl (lv_room (Nat.le_of_ble_eq_true rfl)) dX5_word_34 ⟨Nat.le_of_ble_eq_true rfl, Nat.le_of_ble_eq_true rfl⟩) hw (fun H locs hw => ?_)
          refine lv_iload_n hx hb dX5_word_37 rfl (lv_at hl 0 rfl) ?_
          refine hv_callir (va_runS (As := [.int (nI k)]) (rest := [.int (nI (o_beg (k + 1)))]) ⟨hx, hb, hml, hown, hts⟩ (met_X5_begin l G k (show k ≤ 8 by omega)) (va_cwS 1 hts (lw_S q2958 q2959 q106 q2960) rfl rfl rfl (by decide +kernel) ⟨Nat.le_of_ble_eq_true rfl, Nat.le_of_ble_eq_true rfl⟩) (hv_preS hw) rfl rfl hl.1 rfl (lv_room (Nat.le_of_ble_eq_true rfl)) dX5_word_38 ⟨Nat.le_of_ble_eq_true rfl, Nat.le_of_ble_eq_true rfl⟩) hw (fun H locs hw => ?_)
          refine lv_isub hx hb dX5_word_41 ?_
          refine lv_tope (y := nI (t_wn k)) (o_wn k hk9) ?_
          refine lv_istore (lv' := [(4, .int (nI (t_wn k))), (3, .int (nI k)), (2, .int ((t_wd (σ.2 10) n9 s9.1 k).2)), (1, .int (nI (t_wd (σ.2 10) n9 s9.1 k).1)), (0, .ref o)]) hx hb dX5_word_42 hl (by decide) rfl (fun ls hl => ?_)
          refine lv_iconst (v := 0) hx hb dX5_word_44 (by decide) ?_
          refine lv_istore (lv' := [(5, .int 0), (4, .int (nI (t_wn k))), (3, .int (nI k)), (2, .int ((t_wd (σ.2 10) n9 s9.1 k).2)), (1, .int (nI (t_wd (σ.2 10) n9 s9.1 k).1)), (0, .ref o)]) hx hb dX5_word_45 hl (by decide) rfl (fun ls hl => ?_)
          have hL : t_lm (σ.2 10) n9 s9.1 (o_beg k) (t_wn k - 0) 0 = t_wl (σ.2 10) n9 s9.1 k := rfl
          have LP47 : ∀ (n47 : Nat) (j : Nat) (H : Heap) (locs : List Loc) (ls : Array Slot), t_wn k - j < n47 → j ≤ t_wn k → t_lm (σ.2 10) n9 s9.1 (o_beg k) (t_wn k - j) j = t_wl (σ.2 10) n9 s9.1 k → hv_W G s h H locs → lv_has ls 6 [(5, .int (nI j)), (4, .int (nI (t_wn k))), (3, .int (nI k)), (2, .int ((t_wd (σ.2 10) n9 s9.1 k).2)), (1, .int (nI (t_wd (σ.2 10) n9 s9.1 k).1)), (0, .ref o)] → W p l e ({ frames := 4, cells := 0, slots := 0, locals := 85 } : Room) s m a below meth c H locs 0 0 Q (F0 m 47 ls []) := by
            intro n47
            induction n47 with
            | zero => exact fun j H locs ls hmu47 => absurd hmu47 (Nat.not_lt_zero _)
            | succ n47 ih47 =>
              intro j H locs ls hmu47 hjw hL hw hl
              refine lv_iload hx hb dX5_word_47 (lv_at hl 0 rfl) ?_
              refine lv_iload hx hb dX5_word_49 (lv_at hl 1 rfl) ?_
              refine lv_icmp_ge (tgt := 101) hx hb dX5_word_51 (by decide) (fun c51 => ?_) (fun c51 => ?_)
              · skip
                have hjk : t_wn k ≤ j := cmp_le c51 rfl rfl (by omega) (by omega)
                have hZ : t_lm (σ.2 10) n9 s9.1 (o_beg k) (t_wn k - j) j = j := by rw [show t_wn k - j = 0 by omega]; rfl
                have hjl : j = t_wl (σ.2 10) n9 s9.1 k := hZ.symm.trans hL
                subst hjl
                refine lv_iload_n hx hb dX5_word_101 rfl (lv_at hl 4 rfl) ?_
                refine lv_aload_n hx hb dX5_word_102 rfl (lv_at hl 5 rfl) ?_
                refine mo_get hx hb hts hown hw hM 19 (by decide) q2573 rfl (v := .int ((m_ts σ s9).1 19)) rfl dX5_word_103 ?_
                refine lv_tope (y := nI s9.1) (m_ts_g19) ?_
                refine lv_iload hx hb dX5_word_106 (lv_at hl 0 rfl) ?_
                refine lv_iadd hx hb dX5_word_108 ?_
                refine lv_tope (y := nI (s9.1 + (t_wl (σ.2 10) n9 s9.1 k))) (by simp only [nI, Int32.ofNat_add, Int32.ofNat_mul] <;> rfl) ?_
                refine va_mmax hx hb (hml.trans hl.1.symm) hown (hts _ q2804) (hts _ q536) (hts _ q113) (hts _ q537) (Nat.le_of_ble_eq_true rfl) (Nat.le_of_ble_eq_true rfl) (Nat.le_of_ble_eq_true rfl) (Nat.le_of_ble_eq_true rfl) dX5_word_109 ?_
                refine lv_tope (y := mx (nI (t_wd (σ.2 10) n9 s9.1 k).1) (nI (s9.1 + (t_wl (σ.2 10) n9 s9.1 k)))) rfl ?_
                refine lv_tope (y := nI (t_wd (σ.2 10) n9 s9.1 (k + 1)).1) ((mx_nI (by omega) (by omega)).trans (congrArg nI (congrArg Prod.fst hw1).symm)) ?_
                refine lv_istore_n (lv' := [(1, .int (nI (t_wd (σ.2 10) n9 s9.1 (k + 1)).1)), (5, .int (nI (t_wl (σ.2 10) n9 s9.1 k))), (4, .int (nI (t_wn k))), (3, .int (nI k)), (2, .int ((t_wd (σ.2 10) n9 s9.1 k).2)), (0, .ref o)]) hx hb dX5_word_112 rfl hl (by decide) rfl (fun ls hl => ?_)
                refine lv_iload hx hb dX5_word_113 (lv_at hl 1 rfl) ?_
                refine lv_iload hx hb dX5_word_115 (lv_at hl 2 rfl) ?_
                refine lv_icmp_ne (tgt := 124) hx hb dX5_word_117 (by decide) (fun c117 => ?_) (fun c117 => ?_)
                · skip
                  refine lv_iload_n hx hb dX5_word_124 rfl (lv_at hl 4 rfl) ?_
                  refine lv_tope (y := (t_wd (σ.2 10) n9 s9.1 (k + 1)).2) ((by rw [hw1]; show (t_wd (σ.2 10) n9 s9.1 k).2 = if _ then _ else _; rw [if_neg (fun z => c117 (congrArg nI z)), c28])) ?_
                  refine lv_istore_n (lv' := [(2, .int ((t_wd (σ.2 10) n9 s9.1 (k + 1)).2)), (1, .int (nI (t_wd (σ.2 10) n9 s9.1 (k + 1)).1)), (5, .int (nI (t_wl (σ.2 10) n9 s9.1 k))), (4, .int (nI (t_wn k))), (3, .int (nI k)), (0, .ref o)]) hx hb dX5_word_125 rfl hl (by decide) rfl (fun ls hl => ?_)
                  refine lv_iinc (v := nI (k + 1)) (lv' := [(3, .int (nI (k + 1))), (2, .int ((t_wd (σ.2 10) n9 s9.1 (k + 1)).2)), (1, .int (nI (t_wd (σ.2 10) n9 s9.1 (k + 1)).1)), (5, .int (nI (t_wl (σ.2 10) n9 s9.1 k))), (4, .int (nI (t_wn k))), (0, .ref o)]) hx hb dX5_word_126 hl (k := 4) rfl (by simp only [nI, Int32.ofNat_add] <;> rfl) (by decide) rfl (fun ls hl => ?_)
                  refine lv_goto (tgt := 20) hx hb dX5_word_129 (by decide) ?_
                  exact ih20 (k + 1) _ _ _ (by omega) (by omega) hw (lv_sub hl [0, 1, 2, 5] rfl)
                · skip
                  refine lv_iload_n hx hb dX5_word_120 rfl (lv_at hl 3 rfl) ?_
                  refine lv_goto (tgt := 125) hx hb dX5_word_121 (by decide) ?_
                  refine lv_tope (y := (t_wd (σ.2 10) n9 s9.1 (k + 1)).2) ((by rw [hw1]; exact (if_pos (cmp_eq c117 rfl rfl (by omega) (by omega))).symm)) ?_
                  refine lv_istore_n (lv' := [(2, .int ((t_wd (σ.2 10) n9 s9.1 (k + 1)).2)), (1, .int (nI (t_wd (σ.2 10) n9 s9.1 (k + 1)).1)), (5, .int (nI (t_wl (σ.2 10) n9 s9.1 k))), (4, .int (nI (t_wn k))), (3, .int (nI k)), (0, .ref o)]) hx hb dX5_word_125 rfl hl (by decide) rfl (fun ls hl => ?_)
                  refine lv_iinc (v := nI (k + 1)) (lv' := [(3, .int (nI (k + 1))), (2, .int ((t_wd (σ.2 10) n9 s9.1 (k + 1)).2)), (1, .int (nI (t_wd (σ.2 10) n9 s9.1 (k + 1)).1)), (5, .int (nI (t_wl (σ.2 10) n9 s9.1 k))), (4, .int (nI (t_wn k))), (0, .ref o)]) hx hb dX5_word_126 hl (k := 4) rfl (by simp only [nI, Int32.ofNat_add] <;> rfl) (by decide) rfl (fun ls hl => ?_)
                  refine lv_goto (tgt := 20) hx hb dX5_word_129 (by decide) ?_
                  exact ih20 (k + 1) _ _ _ (by omega) (by omega) hw (lv_sub hl [0, 1, 2, 5] rfl)
              · skip
                have hjk : j < t_wn k := cmp_nle c51 rfl rfl (by omega) (by omega)
                refine lv_aload_n hx hb dX5_word_54 rfl (lv_at hl 5 rfl) ?_
                refine mo_get hx hb hts hown hw hM 19 (by decide) q2573 rfl (v := .int ((m_ts σ s9).1 19)) rfl dX5_word_55 ?_
                refine lv_tope (y := nI s9.1) (m_ts_g19) ?_
                refine lv_iload hx hb dX5_word_58 (lv_at hl 0 rfl) ?_
                refine lv_iadd hx hb dX5_word_60 ?_
                refine lv_tope (y := nI (s9.1 + j)) (by simp only [nI, Int32.ofNat_add, Int32.ofNat_mul] <;> rfl) ?_
                refine lv_aload_n hx hb dX5_word_61 rfl (lv_at hl 5 rfl) ?_
                refine mo_get hx hb hts hown hw hM 18 (by decide) q2572 rfl (v := .int ((m_ts σ s9).1 18)) rfl dX5_word_62 ?_
                refine lv_tope (y := nI n9) ((m_ts_gk (by decide) (by decide)).trans hn9) ?_
                refine lv_icmp_ge (tgt := 101) hx hb dX5_word_65 (by decide) (fun c65 => ?_) (fun c65 => ?_)
                · skip
                  have hjn : n9 ≤ s9.1 + j := cmp_le c65 rfl rfl (by omega) (by omega)
                  have hZ : t_lm (σ.2 10) n9 s9.1 (o_beg k) (t_wn k - j) j = j := t_lm_no (fun z => absurd z.1 (by omega))
                  have hjl : j = t_wl (σ.2 10) n9 s9.1 k := hZ.symm.trans hL
                  subst hjl
                  refine lv_iload_n hx hb dX5_word_101 rfl (lv_at hl 4 rfl) ?_
                  refine lv_aload_n hx hb dX5_word_102 rfl (lv_at hl 5 rfl) ?_
                  refine mo_get hx hb hts hown hw hM 19 (by decide) q2573 rfl (v := .int ((m_ts σ s9).1 19)) rfl dX5_word_103 ?_
                  refine lv_tope (y := nI s9.1) (m_ts_g19) ?_
                  refine lv_iload hx hb dX5_word_106 (lv_at hl 0 rfl) ?_
                  refine lv_iadd hx hb dX5_word_108 ?_
                  refine lv_tope (y := nI (s9.1 + (t_wl (σ.2 10) n9 s9.1 k))) (by simp only [nI, Int32.ofNat_add, Int32.ofNat_mul] <;> rfl) ?_
                  refine va_mmax hx hb (hml.trans hl.1.symm) hown (hts _ q2804) (hts _ q536) (hts _ q113) (hts _ q537) (Nat.le_of_ble_eq_true rfl) (Nat.le_of_ble_eq_true rfl) (Nat.le_of_ble_eq_true rfl) (Nat.le_of_ble_eq_true rfl) dX5_word_109 ?_
                  refine lv_tope (y := mx (nI (t_wd (σ.2 10) n9 s9.1 k).1) (nI (s9.1 + (t_wl (σ.2 10) n9 s9.1 k)))) rfl ?_
                  refine lv_tope (y := nI (t_wd (σ.2 10) n9 s9.1 (k + 1)).1) ((mx_nI (by omega) (by omega)).trans (congrArg nI (congrArg Prod.fst hw1).symm)) ?_
                  refine lv_istore_n (lv' := [(1, .int (nI (t_wd (σ.2 10) n9 s9.1 (k + 1)).1)), (5, .int (nI (t_wl (σ.2 10) n9 s9.1 k))), (4, .int (nI (t_wn k))), (3, .int (nI k)), (2, .int ((t_wd (σ.2 10) n9 s9.1 k).2)), (0, .ref o)]) hx hb dX5_word_112 rfl hl (by decide) rfl (fun ls hl => ?_)
                  refine lv_iload hx hb dX5_word_113 (lv_at hl 1 rfl) ?_
                  refine lv_iload hx hb dX5_word_115 (lv_at hl 2 rfl) ?_
                  refine lv_icmp_ne (tgt := 124) hx hb dX5_word_117 (by decide) (fun c117 => ?_) (fun c117 => ?_)
                  · skip
                    refine lv_iload_n hx hb dX5_word_124 rfl (lv_at hl 4 rfl) ?_
                    refine lv_tope (y := (t_wd (σ.2 10) n9 s9.1 (k + 1)).2) ((by rw [hw1]; show (t_wd (σ.2 10) n9 s9.1 k).2 = if _ then _ else _; rw [if_neg (fun z => c117 (congrArg nI z)), c28])) ?_
                    refine lv_istore_n (lv' := [(2, .int ((t_wd (σ.2 10) n9 s9.1 (k + 1)).2)), (1, .int (nI (t_wd (σ.2 10) n9 s9.1 (k + 1)).1)), (5, .int (nI (t_wl (σ.2 10) n9 s9.1 k))), (4, .int (nI (t_wn k))), (3, .int (nI k)), (0, .ref o)]) hx hb dX5_word_125 rfl hl (by decide) rfl (fun ls hl => ?_)
                    refine lv_iinc (v := nI (k + 1)) (lv' := [(3, .int (nI (k + 1))), (2, .int ((t_wd (σ.2 10) n9 s9.1 (k + 1)).2)), (1, .int (nI (t_wd (σ.2 10) n9 s9.1 (k + 1)).1)), (5, .int (nI (t_wl (σ.2 10) n9 s9.1 k))), (4, .int (nI (t_wn k))), (0, .ref o)]) hx hb dX5_word_126 hl (k := 4) rfl (by simp only [nI, Int32.ofNat_add] <;> rfl) (by decide) rfl (fun ls hl => ?_)
                    refine lv_goto (tgt := 20) hx hb dX5_word_129 (by decide) ?_
                    exact ih20 (k + 1) _ _ _ (by omega) (by omega) hw (lv_sub hl [0, 1, 2, 5] rfl)
                  · skip
                    refine lv_iload_n hx hb dX5_word_120 rfl (lv_at hl 3 rfl) ?_
                    refine lv_goto (tgt := 125) hx hb dX5_word_121 (by decide) ?_
                    refine lv_tope (y := (t_wd (σ.2 10) n9 s9.1 (k + 1)).2) ((by rw [hw1]; exact (if_pos (cmp_eq c117 rfl rfl (by omega) (by omega))).symm)) ?_
                    refine lv_istore_n (lv' := [(2, .int ((t_wd (σ.2 10) n9 s9.1 (k + 1)).2)), (1, .int (nI (t_wd (σ.2 10) n9 s9.1 (k + 1)).1)), (5, .int (nI (t_wl (σ.2 10) n9 s9.1 k))), (4, .int (nI (t_wn k))), (3, .int (nI k)), (0, .ref o)]) hx hb dX5_word_125 rfl hl (by decide) rfl (fun ls hl => ?_)
                    refine lv_iinc (v := nI (k + 1)) (lv' := [(3, .int (nI (k + 1))), (2, .int ((t_wd (σ.2 10) n9 s9.1 (k + 1)).2)), (1, .int (nI (t_wd (σ.2 10) n9 s9.1 (k + 1)).1)), (5, .int (nI (t_wl (σ.2 10) n9 s9.1 k))), (4, .int (nI (t_wn k))), (0, .ref o)]) hx hb dX5_word_126 hl (k := 4) rfl (by simp only [nI, Int32.ofNat_add] <;> rfl) (by decide) rfl (fun ls hl => ?_)
                    refine lv_goto (tgt := 20) hx hb dX5_word_129 (by decide) ?_
                    exact ih20 (k + 1) _ _ _ (by omega) (by omega) hw (lv_sub hl [0, 1, 2, 5] rfl)
                · skip
                  have hjn : s9.1 + j < n9 := cmp_nle c65 rfl rfl (by omega) (by omega)
                  refine lv_aload_n hx hb dX5_word_68 rfl (lv_at hl 5 rfl) ?_
                  refine mo_get hx hb hts hown hw hM 10 (by decide) q2564 rfl (v := .ref (ma 10)) rfl dX5_word_69 ?_
                  refine lv_aload_n hx hb dX5_word_72 rfl (lv_at hl 5 rfl) ?_
                  refine mo_get hx hb hts hown hw hM 19 (by decide) q2573 rfl (v := .int ((m_ts σ s9).1 19)) rfl dX5_word_73 ?_
                  refine lv_tope (y := nI s9.1) (m_ts_g19) ?_
                  refine lv_iload hx hb dX5_word_76 (lv_at hl 0 rfl) ?_
                  refine lv_iadd hx hb dX5_word_78 ?_
                  refine lv_tope (y := nI (s9.1 + j)) (by simp only [nI, Int32.ofNat_add, Int32.ofNat_mul] <;> rfl) ?_
                  refine mo_ald hx hb hw hM 10 rfl (j := (s9.1 + j)) rfl (show s9.1 + j < 60 by omega) dX5_word_79 ?_
                  refine lv_tope (y := σ.2 10 (s9.1 + j)) (rfl) ?_
                  refine hv_ldcS hx hb hown hw 43 rfl dX5_word_80 ?_
                  have hc_1 : h (G.2.2.2.1 33) = some (.inr (16, [.ref (G.2.2.2.1 123), .int 0, .int 918531630, .int 0])) := (hC.s hw 23 (by decide)).1
                  have hc_2 : h (G.2.2.2.1 123) = some (.inl (3, (36, .inl (hv_tb 23)))) := (hC.s hw 23 (by decide)).2
                  refine lv_iload_n hx hb dX5_word_82 rfl (lv_at hl 2 rfl) ?_
                  refine hv_callir (va_runS (As := [.int (nI k)]) (rest := [.ref (G.2.2.2.1 33), .int (σ.2 10 (s9.1 + j))]) ⟨hx, hb, hml, hown, hts⟩ (met_X5_begin l G k (show k ≤ 8 by omega)) (va_cwS 1 hts (lw_S q2958 q2959 q106 q2960) rfl rfl rfl (by decide +kernel) ⟨Nat.le_of_ble_eq_true rfl, Nat.le_of_ble_eq_true rfl⟩) (hv_preS hw) rfl rfl hl.1 rfl (lv_room (Nat.le_of_ble_eq_true rfl)) dX5_word_83 ⟨Nat.le_of_ble_eq_true rfl, Nat.le_of_ble_eq_true rfl⟩) hw (fun H locs hw => ?_)
                  refine lv_iload hx hb dX5_word_86 (lv_at hl 0 rfl) ?_
                  refine lv_iadd hx hb dX5_word_88 ?_
                  refine lv_tope (y := nI (o_beg k + j)) (by simp only [nI, Int32.ofNat_add, Int32.ofNat_mul] <;> rfl) ?_
                  refine hv_callir (va_runV (As := [.int (nI (o_beg k + j))]) (rest := [.int (σ.2 10 (s9.1 + j))]) ⟨hx, hb, hml, hown, hts⟩ (met_J9_charAt l G (G.2.2.2.1 123) 918531630 0 36 (hv_tb 23) (G.2.2.2.1 33) (o_beg k + j) hc_1 hc_2 (show (o_beg k + j) < 36 by omega) (show 36 < 2 ^ 31 by omega)) (cwV 1 hts (lw_V q2962 q2297 q2298 q104 q2299) rfl rfl rfl (by decide +kernel) ⟨Nat.le_of_ble_eq_true rfl, Nat.le_of_ble_eq_true rfl⟩) (hv_preV hw pk_J9 hc_1) rfl rfl hl.1 rfl (lv_room (Nat.le_of_ble_eq_true rfl)) dX5_word_89 ⟨Nat.le_of_ble_eq_true rfl, Nat.le_of_ble_eq_true rfl⟩) hw (fun H locs hw => ?_)
                  refine lv_tope (y := hv_tb 23 (o_beg k + j)) (tb_255 23 (by decide) _ (show o_beg k + j < 36 by omega)) ?_
                  refine lv_icmp_ne (tgt := 101) hx hb dX5_word_92 (by decide) (fun c92 => ?_) (fun c92 => ?_)
                  · skip
                    have hZ : t_lm (σ.2 10) n9 s9.1 (o_beg k) (t_wn k - j) j = j := t_lm_no (fun z => c92 z.2)
                    have hjl : j = t_wl (σ.2 10) n9 s9.1 k := hZ.symm.trans hL
                    subst hjl
                    refine lv_iload_n hx hb dX5_word_101 rfl (lv_at hl 4 rfl) ?_
                    refine lv_aload_n hx hb dX5_word_102 rfl (lv_at hl 5 rfl) ?_
                    refine mo_get hx hb hts hown hw hM 19 (by decide) q2573 rfl (v := .int ((m_ts σ s9).1 19)) rfl dX5_word_103 ?_
                    refine lv_tope (y := nI s9.1) (m_ts_g19) ?_
                    refine lv_iload hx hb dX5_word_106 (lv_at hl 0 rfl) ?_
                    refine lv_iadd hx hb dX5_word_108 ?_
                    refine lv_tope (y := nI (s9.1 + (t_wl (σ.2 10) n9 s9.1 k))) (by simp only [nI, Int32.ofNat_add, Int32.ofNat_mul] <;> rfl) ?_
                    refine va_mmax hx hb (hml.trans hl.1.symm) hown (hts _ q2804) (hts _ q536) (hts _ q113) (hts _ q537) (Nat.le_of_ble_eq_true rfl) (Nat.le_of_ble_eq_true rfl) (Nat.le_of_ble_eq_true rfl) (Nat.le_of_ble_eq_true rfl) dX5_word_109 ?_
                    refine lv_tope (y := mx (nI (t_wd (σ.2 10) n9 s9.1 k).1) (nI (s9.1 + (t_wl (σ.2 10) n9 s9.1 k)))) rfl ?_
                    refine lv_tope (y := nI (t_wd (σ.2 10) n9 s9.1 (k + 1)).1) ((mx_nI (by omega) (by omega)).trans (congrArg nI (congrArg Prod.fst hw1).symm)) ?_
                    refine lv_istore_n (lv' := [(1, .int (nI (t_wd (σ.2 10) n9 s9.1 (k + 1)).1)), (5, .int (nI (t_wl (σ.2 10) n9 s9.1 k))), (4, .int (nI (t_wn k))), (3, .int (nI k)), (2, .int ((t_wd (σ.2 10) n9 s9.1 k).2)), (0, .ref o)]) hx hb dX5_word_112 rfl hl (by decide) rfl (fun ls hl => ?_)
                    refine lv_iload hx hb dX5_word_113 (lv_at hl 1 rfl) ?_
                    refine lv_iload hx hb dX5_word_115 (lv_at hl 2 rfl) ?_
                    refine lv_icmp_ne (tgt := 124) hx hb dX5_word_117 (by decide) (fun c117 => ?_) (fun c117 => ?_)
                    · skip
                      refine lv_iload_n hx hb dX5_word_124 rfl (lv_at hl 4 rfl) ?_
                      refine lv_tope (y := (t_wd (σ.2 10) n9 s9.1 (k + 1)).2) ((by rw [hw1]; show (t_wd (σ.2 10) n9 s9.1 k).2 = if _ then _ else _; rw [if_neg (fun z => c117 (congrArg nI z)), c28])) ?_
                      refine lv_istore_n (lv' := [(2, .int ((t_wd (σ.2 10) n9 s9.1 (k + 1)).2)), (1, .int (nI (t_wd (σ.2 10) n9 s9.1 (k + 1)).1)), (5, .int (nI (t_wl (σ.2 10) n9 s9.1 k))), (4, .int (nI (t_wn k))), (3, .int (nI k)), (0, .ref o)]) hx hb dX5_word_125 rfl hl (by decide) rfl (fun ls hl => ?_)
                      refine lv_iinc (v := nI (k + 1)) (lv' := [(3, .int (nI (k + 1))), (2, .int ((t_wd (σ.2 10) n9 s9.1 (k + 1)).2)), (1, .int (nI (t_wd (σ.2 10) n9 s9.1 (k + 1)).1)), (5, .int (nI (t_wl (σ.2 10) n9 s9.1 k))), (4, .int (nI (t_wn k))), (0, .ref o)]) hx hb dX5_word_126 hl (k := 4) rfl (by simp only [nI, Int32.ofNat_add] <;> rfl) (by decide) rfl (fun ls hl => ?_)
                      refine lv_goto (tgt := 20) hx hb dX5_word_129 (by decide) ?_
                      exact ih20 (k + 1) _ _ _ (by omega) (by omega) hw (lv_sub hl [0, 1, 2, 5] rfl)
                    · skip
                      refine lv_iload_n hx hb dX5_word_120 rfl (lv_at hl 3 rfl) ?_
                      refine lv_goto (tgt := 125) hx hb dX5_word_121 (by decide) ?_
                      refine lv_tope (y := (t_wd (σ.2 10) n9 s9.1 (k + 1)).2) ((by rw [hw1]; exact (if_pos (cmp_eq c117 rfl rfl (by omega) (by omega))).symm)) ?_
                      refine lv_istore_n (lv' := [(2, .int ((t_wd (σ.2 10) n9 s9.1 (k + 1)).2)), (1, .int (nI (t_wd (σ.2 10) n9 s9.1 (k + 1)).1)), (5, .int (nI (t_wl (σ.2 10) n9 s9.1 k))), (4, .int (nI (t_wn k))), (3, .int (nI k)), (0, .ref o)]) hx hb dX5_word_125 rfl hl (by decide) rfl (fun ls hl => ?_)
                      refine lv_iinc (v := nI (k + 1)) (lv' := [(3, .int (nI (k + 1))), (2, .int ((t_wd (σ.2 10) n9 s9.1 (k + 1)).2)), (1, .int (nI (t_wd (σ.2 10) n9 s9.1 (k + 1)).1)), (5, .int (nI (t_wl (σ.2 10) n9 s9.1 k))), (4, .int (nI (t_wn k))), (0, .ref o)]) hx hb dX5_word_126 hl (k := 4) rfl (by simp only [nI, Int32.ofNat_add] <;> rfl) (by decide) rfl (fun ls hl => ?_)
                      refine lv_goto (tgt := 20) hx hb dX5_word_129 (by decide) ?_
                      exact ih20 (k + 1) _ _ _ (by omega) (by omega) hw (lv_sub hl [0, 1, 2, 5] rfl)
                  · skip
                    have hS : t_lm (σ.2 10) n9 s9.1 (o_beg k) (t_wn k - j) j = t_lm (σ.2 10) n9 s9.1 (o_beg k) (t_wn k - (j + 1)) (j + 1) := by rw [show t_wn k - j = (t_wn k - (j + 1)) + 1 by omega]; exact t_lm_s ⟨hjn, c92⟩
                    refine lv_iinc (v := nI (j + 1)) (lv' := [(5, .int (nI (j + 1))), (4, .int (nI (t_wn k))), (3, .int (nI k)), (2, .int ((t_wd (σ.2 10) n9 s9.1 k).2)), (1, .int (nI (t_wd (σ.2 10) n9 s9.1 k).1)), (0, .ref o)]) hx hb dX5_word_95 hl (k := 0) rfl (by simp only [nI, Int32.ofNat_add] <;> rfl) (by decide) rfl (fun ls hl => ?_)
                    refine lv_goto (tgt := 47) hx hb dX5_word_98 (by decide) ?_
                    exact ih47 (j + 1) _ _ _ (by omega) (by omega) (hS.symm.trans hL) hw (lv_sub hl [0, 1, 2, 3, 4, 5] rfl)
          exact LP47 _ 0 _ _ _ (Nat.lt_succ_self _) (by omega) (hL) hw (lv_sub hl [0, 1, 2, 3, 4, 5] rfl)
  exact LP20 _ 0 _ _ _ (Nat.lt_succ_self _) (by omega) hw (lv_sub hl [0, 1, 2, 3] rfl)
