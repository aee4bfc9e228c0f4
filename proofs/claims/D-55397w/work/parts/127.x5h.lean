set_option maxRecDepth 100000
set_option maxHeartbeats 1000000 in
theorem met_X5_bracket (l : Launch) (G : hG) {h : hp} {o : Nat} {ma : Nat → Nat} {σ : MS} (hM : isMod G h o ma σ) (e9 : Int32) (r9 : Int32) (hok : okI (σ.2 0)) (h5 : σ.1 5 = nI (o_n (σ.1 5)) ∧ o_n (σ.1 5) ≤ 8) : hv_Mi l G yX5_bracket (ws_ yX5_bracket cX5_bracket 3 (Option.some Jvm.ClassFile.FieldType.int)) ({ frames := 3, cells := 0, slots := 0, locals := 70 } : Room) [.ref o, .int e9, .int r9] h (fun r hh => ∃ σ2, (m_pub σ (i_tells (σ.2 0) e9 r9) σ2 r) ∧ isMod G hh o ma σ2 ∧ mo_fr o ma h hh) := by
  refine hv_bi .int (Or.inl rfl) (own := RX5) (by decide +kernel) rfl (Nat.le_of_ble_eq_true rfl) (fun p e s m a below meth c ls Q hx hb hml hown hts hnm hret hw hl => ?_)
  have hl : lv_has ls 3 [(0, .ref o), (1, .int e9), (2, .int r9)] := hl
  have hF : mo_fr o ma h h := mo_fr.rf
  refine lv_aload_n hx hb dX5_bracket_0 rfl (lv_at hl 0 rfl) ?_
  refine mo_callv (va_runV (As := []) (rest := []) ⟨hx, hb, hml, hown, hts⟩ (met_X5_begins l G hM  ) (cwV 0 hts (lw_V q2654 q2656 qs45 q106 q2657) rfl rfl rfl (by decide +kernel) ⟨Nat.le_of_ble_eq_true rfl, Nat.le_of_ble_eq_true rfl⟩) (hv_preV hw pk_X5 hM.1) rfl rfl hl.1 rfl (lv_room (Nat.le_of_ble_eq_true rfl)) dX5_bracket_1 ⟨Nat.le_of_ble_eq_true rfl, Nat.le_of_ble_eq_true rfl⟩) hw hF (fun hh H locs hM hF hw => ?_)
  refine lv_aload_n hx hb dX5_bracket_4 rfl (lv_at hl 0 rfl) ?_
  refine lv_aload_n hx hb dX5_bracket_5 rfl (lv_at hl 0 rfl) ?_
  refine lv_iload_n hx hb dX5_bracket_6 rfl (lv_at hl 1 rfl) ?_
  refine lv_iload_n hx hb dX5_bracket_7 rfl (lv_at hl 2 rfl) ?_
  refine hv_calli (va_runV (As := [.int e9, .int r9]) (rest := [.ref o]) ⟨hx, hb, hml, hown, hts⟩ (met_X5_tells l G hM e9 r9 (hok) (rfl)) (cwV 2 hts (lw_V q2658 q2660 qs46 q106 q2661) rfl rfl rfl (by decide +kernel) ⟨Nat.le_of_ble_eq_true rfl, Nat.le_of_ble_eq_true rfl⟩) (hv_preV hw pk_X5 hM.1) rfl rfl hl.1 rfl (lv_room (Nat.le_of_ble_eq_true rfl)) dX5_bracket_8 ⟨Nat.le_of_ble_eq_true rfl, Nat.le_of_ble_eq_true rfl⟩) hw (fun r_1 hh H locs hp hw => ?_)
  obtain ⟨σ_1, hI_1, hM, hF9⟩ := hp
  have hF := hF.tr hF9
  have hI_1 : m_inn (m_beg σ) (i_tells (σ.2 0) e9 r9) σ_1 r_1 := hI_1
  cases hrs : i_tells (σ.2 0) e9 r9 with
  | inl x9 =>
    rw [hrs] at hI_1
    refine mo_calli (va_runV (As := [.int r_1]) (rest := []) ⟨hx, hb, hml, hown, hts⟩ (met_X5_ends_ref l G hM r_1 (by rw [hI_1.1]; exact hI_1.2.1)) (cwV 1 hts (lw_V q2677 q2679 qs50 q106 q2680) rfl rfl rfl (by decide +kernel) ⟨Nat.le_of_ble_eq_true rfl, Nat.le_of_ble_eq_true rfl⟩) (hv_preV hw pk_X5 hM.1) rfl rfl hl.1 rfl (lv_room (Nat.le_of_ble_eq_true rfl)) dX5_bracket_11 ⟨Nat.le_of_ble_eq_true rfl, Nat.le_of_ble_eq_true rfl⟩) hw hF (fun hh H locs hM hF hw => ?_)
    exact hret rfl hw ⟨_, by rw [hrs]; exact pub_ref hI_1, hM, hF⟩ (Nat.le_of_ble_eq_true rfl) (Nat.le_of_ble_eq_true rfl) dX5_bracket_14
  | inr y9 =>
    rw [hrs] at hI_1
    obtain ⟨e9_, e8_⟩ := hI_1
    subst e9_; subst e8_
    refine mo_calli (va_runV (As := [.int y9.2]) (rest := []) ⟨hx, hb, hml, hown, hts⟩ (met_X5_ends_ok l G hM y9.2 (rfl) (h5)) (cwV 1 hts (lw_V q2677 q2679 qs50 q106 q2680) rfl rfl rfl (by decide +kernel) ⟨Nat.le_of_ble_eq_true rfl, Nat.le_of_ble_eq_true rfl⟩) (hv_preV hw pk_X5 hM.1) rfl rfl hl.1 rfl (lv_room (Nat.le_of_ble_eq_true rfl)) dX5_bracket_11 ⟨Nat.le_of_ble_eq_true rfl, Nat.le_of_ble_eq_true rfl⟩) hw hF (fun hh H locs hM hF hw => ?_)
    exact hret rfl hw ⟨_, by rw [hrs]; exact pub_ok h5, hM, hF⟩ (Nat.le_of_ble_eq_true rfl) (Nat.le_of_ble_eq_true rfl) dX5_bracket_14
set_option maxHeartbeats 1000000 in
theorem met_X5_drop (l : Launch) (G : hG) {h : hp} {o : Nat} {ma : Nat → Nat} {σ : MS} (hM : isMod G h o ma σ) (b : Int32) (hok : okI (σ.2 0)) (h5 : σ.1 5 = nI (o_n (σ.1 5)) ∧ o_n (σ.1 5) ≤ 8) : hv_Mi l G yX5_drop (ws_ yX5_drop cX5_drop 2 (Option.some Jvm.ClassFile.FieldType.int)) ({ frames := 3, cells := 0, slots := 0, locals := 66 } : Room) [.ref o, .int b] h (fun r hh => ∃ σ2, (m_pub σ (i_drops (σ.2 0) b) σ2 r) ∧ isMod G hh o ma σ2 ∧ mo_fr o ma h hh) := by
  refine hv_bi .int (Or.inl rfl) (own := RX5) (by decide +kernel) rfl (Nat.le_of_ble_eq_true rfl) (fun p e s m a below meth c ls Q hx hb hml hown hts hnm hret hw hl => ?_)
  have hl : lv_has ls 2 [(0, .ref o), (1, .int b)] := hl
  have hF : mo_fr o ma h h := mo_fr.rf
  refine lv_aload_n hx hb dX5_drop_0 rfl (lv_at hl 0 rfl) ?_
  refine mo_callv (va_runV (As := []) (rest := []) ⟨hx, hb, hml, hown, hts⟩ (met_X5_begins l G hM  ) (cwV 0 hts (lw_V q2654 q2656 qs45 q106 q2657) rfl rfl rfl (by decide +kernel) ⟨Nat.le_of_ble_eq_true rfl, Nat.le_of_ble_eq_true rfl⟩) (hv_preV hw pk_X5 hM.1) rfl rfl hl.1 rfl (lv_room (Nat.le_of_ble_eq_true rfl)) dX5_drop_1 ⟨Nat.le_of_ble_eq_true rfl, Nat.le_of_ble_eq_true rfl⟩) hw hF (fun hh H locs hM hF hw => ?_)
  refine lv_aload_n hx hb dX5_drop_4 rfl (lv_at hl 0 rfl) ?_
  refine lv_aload_n hx hb dX5_drop_5 rfl (lv_at hl 0 rfl) ?_
  refine lv_iload_n hx hb dX5_drop_6 rfl (lv_at hl 1 rfl) ?_
  refine hv_calli (va_runV (As := [.int b]) (rest := [.ref o]) ⟨hx, hb, hml, hown, hts⟩ (met_X5_drops l G hM b (hok) (rfl)) (cwV 1 hts (lw_V q2689 q2691 qs52 q106 q2692) rfl rfl rfl (by decide +kernel) ⟨Nat.le_of_ble_eq_true rfl, Nat.le_of_ble_eq_true rfl⟩) (hv_preV hw pk_X5 hM.1) rfl rfl hl.1 rfl (lv_room (Nat.le_of_ble_eq_true rfl)) dX5_drop_7 ⟨Nat.le_of_ble_eq_true rfl, Nat.le_of_ble_eq_true rfl⟩) hw (fun r_1 hh H locs hp hw => ?_)
  obtain ⟨σ_1, hI_1, hM, hF9⟩ := hp
  have hF := hF.tr hF9
  have hI_1 : m_inn (m_beg σ) (i_drops (σ.2 0) b) σ_1 r_1 := hI_1
  cases hrs : i_drops (σ.2 0) b with
  | inl x9 =>
    rw [hrs] at hI_1
    refine mo_calli (va_runV (As := [.int r_1]) (rest := []) ⟨hx, hb, hml, hown, hts⟩ (met_X5_ends_ref l G hM r_1 (by rw [hI_1.1]; exact hI_1.2.1)) (cwV 1 hts (lw_V q2677 q2679 qs50 q106 q2680) rfl rfl rfl (by decide +kernel) ⟨Nat.le_of_ble_eq_true rfl, Nat.le_of_ble_eq_true rfl⟩) (hv_preV hw pk_X5 hM.1) rfl rfl hl.1 rfl (lv_room (Nat.le_of_ble_eq_true rfl)) dX5_drop_10 ⟨Nat.le_of_ble_eq_true rfl, Nat.le_of_ble_eq_true rfl⟩) hw hF (fun hh H locs hM hF hw => ?_)
    exact hret rfl hw ⟨_, by rw [hrs]; exact pub_ref hI_1, hM, hF⟩ (Nat.le_of_ble_eq_true rfl) (Nat.le_of_ble_eq_true rfl) dX5_drop_13
  | inr y9 =>
    rw [hrs] at hI_1
    obtain ⟨e9_, e8_⟩ := hI_1
    subst e9_; subst e8_
    refine mo_calli (va_runV (As := [.int y9.2]) (rest := []) ⟨hx, hb, hml, hown, hts⟩ (met_X5_ends_ok l G hM y9.2 (rfl) (h5)) (cwV 1 hts (lw_V q2677 q2679 qs50 q106 q2680) rfl rfl rfl (by decide +kernel) ⟨Nat.le_of_ble_eq_true rfl, Nat.le_of_ble_eq_true rfl⟩) (hv_preV hw pk_X5 hM.1) rfl rfl hl.1 rfl (lv_room (Nat.le_of_ble_eq_true rfl)) dX5_drop_10 ⟨Nat.le_of_ble_eq_true rfl, Nat.le_of_ble_eq_true rfl⟩) hw hF (fun hh H locs hM hF hw => ?_)
    exact hret rfl hw ⟨_, by rw [hrs]; exact pub_ok h5, hM, hF⟩ (Nat.le_of_ble_eq_true rfl) (Nat.le_of_ble_eq_true rfl) dX5_drop_13
set_option maxHeartbeats 1000000 in
theorem met_X5_rate (l : Launch) (G : hG) {h : hp} {o : Nat} {ma : Nat → Nat} {σ : MS} (hM : isMod G h o ma σ) (b : Int32) (r9 : Int32) (hok : okI (σ.2 0)) (h5 : σ.1 5 = nI (o_n (σ.1 5)) ∧ o_n (σ.1 5) ≤ 8) : hv_Mi l G yX5_rate (ws_ yX5_rate cX5_rate 3 (Option.some Jvm.ClassFile.FieldType.int)) ({ frames := 3, cells := 0, slots := 0, locals := 69 } : Room) [.ref o, .int b, .int r9] h (fun r hh => ∃ σ2, (m_pub σ (i_rates (σ.2 0) b r9) σ2 r) ∧ isMod G hh o ma σ2 ∧ mo_fr o ma h hh) := by
  refine hv_bi .int (Or.inl rfl) (own := RX5) (by decide +kernel) rfl (Nat.le_of_ble_eq_true rfl) (fun p e s m a below meth c ls Q hx hb hml hown hts hnm hret hw hl => ?_)
  have hl : lv_has ls 3 [(0, .ref o), (1, .int b), (2, .int r9)] := hl
  have hF : mo_fr o ma h h := mo_fr.rf
  refine lv_aload_n hx hb dX5_rate_0 rfl (lv_at hl 0 rfl) ?_
  refine mo_callv (va_runV (As := []) (rest := []) ⟨hx, hb, hml, hown, hts⟩ (met_X5_begins l G hM  ) (cwV 0 hts (lw_V q2654 q2656 qs45 q106 q2657) rfl rfl rfl (by decide +kernel) ⟨Nat.le_of_ble_eq_true rfl, Nat.le_of_ble_eq_true rfl⟩) (hv_preV hw pk_X5 hM.1) rfl rfl hl.1 rfl (lv_room (Nat.le_of_ble_eq_true rfl)) dX5_rate_1 ⟨Nat.le_of_ble_eq_true rfl, Nat.le_of_ble_eq_true rfl⟩) hw hF (fun hh H locs hM hF hw => ?_)
  refine lv_aload_n hx hb dX5_rate_4 rfl (lv_at hl 0 rfl) ?_
  refine lv_aload_n hx hb dX5_rate_5 rfl (lv_at hl 0 rfl) ?_
  refine lv_iload_n hx hb dX5_rate_6 rfl (lv_at hl 1 rfl) ?_
  refine lv_iload_n hx hb dX5_rate_7 rfl (lv_at hl 2 rfl) ?_
  refine hv_calli (va_runV (As := [.int b, .int r9]) (rest := [.ref o]) ⟨hx, hb, hml, hown, hts⟩ (met_X5_rates l G hM b r9 (hok) (rfl)) (cwV 2 hts (lw_V q2705 q2707 qs55 q106 q2708) rfl rfl rfl (by decide +kernel) ⟨Nat.le_of_ble_eq_true rfl, Nat.le_of_ble_eq_true rfl⟩) (hv_preV hw pk_X5 hM.1) rfl rfl hl.1 rfl (lv_room (Nat.le_of_ble_eq_true rfl)) dX5_rate_8 ⟨Nat.le_of_ble_eq_true rfl, Nat.le_of_ble_eq_true rfl⟩) hw (fun r_1 hh H locs hp hw => ?_)
  obtain ⟨σ_1, hI_1, hM, hF9⟩ := hp
  have hF := hF.tr hF9
  have hI_1 : m_inn (m_beg σ) (i_rates (σ.2 0) b r9) σ_1 r_1 := hI_1
  cases hrs : i_rates (σ.2 0) b r9 with
  | inl x9 =>
    rw [hrs] at hI_1
    refine mo_calli (va_runV (As := [.int r_1]) (rest := []) ⟨hx, hb, hml, hown, hts⟩ (met_X5_ends_ref l G hM r_1 (by rw [hI_1.1]; exact hI_1.2.1)) (cwV 1 hts (lw_V q2677 q2679 qs50 q106 q2680) rfl rfl rfl (by decide +kernel) ⟨Nat.le_of_ble_eq_true rfl, Nat.le_of_ble_eq_true rfl⟩) (hv_preV hw pk_X5 hM.1) rfl rfl hl.1 rfl (lv_room (Nat.le_of_ble_eq_true rfl)) dX5_rate_11 ⟨Nat.le_of_ble_eq_true rfl, Nat.le_of_ble_eq_true rfl⟩) hw hF (fun hh H locs hM hF hw => ?_)
    exact hret rfl hw ⟨_, by rw [hrs]; exact pub_ref hI_1, hM, hF⟩ (Nat.le_of_ble_eq_true rfl) (Nat.le_of_ble_eq_true rfl) dX5_rate_14
  | inr y9 =>
    rw [hrs] at hI_1
    obtain ⟨e9_, e8_⟩ := hI_1
    subst e9_; subst e8_
    refine mo_calli (va_runV (As := [.int y9.2]) (rest := []) ⟨hx, hb, hml, hown, hts⟩ (met_X5_ends_ok l G hM y9.2 (rfl) (h5)) (cwV 1 hts (lw_V q2677 q2679 qs50 q106 q2680) rfl rfl rfl (by decide +kernel) ⟨Nat.le_of_ble_eq_true rfl, Nat.le_of_ble_eq_true rfl⟩) (hv_preV hw pk_X5 hM.1) rfl rfl hl.1 rfl (lv_room (Nat.le_of_ble_eq_true rfl)) dX5_rate_11 ⟨Nat.le_of_ble_eq_true rfl, Nat.le_of_ble_eq_true rfl⟩) hw hF (fun hh H locs hM hF hw => ?_)
    exact hret rfl hw ⟨_, by rw [hrs]; exact pub_ok h5, hM, hF⟩ (Nat.le_of_ble_eq_true rfl) (Nat.le_of_ble_eq_true rfl) dX5_rate_14
set_option maxHeartbeats 1000000 in
theorem met_X5_cap (l : Launch) (G : hG) {h : hp} {o : Nat} {ma : Nat → Nat} {σ : MS} (hM : isMod G h o ma σ) (k : Int32) (x : Int32) (hok : okI (σ.2 0)) (h5 : σ.1 5 = nI (o_n (σ.1 5)) ∧ o_n (σ.1 5) ≤ 8) : hv_Mi l G yX5_cap (ws_ yX5_cap cX5_cap 3 (Option.some Jvm.ClassFile.FieldType.int)) ({ frames := 3, cells := 0, slots := 0, locals := 69 } : Room) [.ref o, .int k, .int x] h (fun r hh => ∃ σ2, (m_pub σ (i_caps (σ.2 0) k x) σ2 r) ∧ isMod G hh o ma σ2 ∧ mo_fr o ma h hh) := by
  refine hv_bi .int (Or.inl rfl) (own := RX5) (by decide +kernel) rfl (Nat.le_of_ble_eq_true rfl) (fun p e s m a below meth c ls Q hx hb hml hown hts hnm hret hw hl => ?_)
  have hl : lv_has ls 3 [(0, .ref o), (1, .int k), (2, .int x)] := hl
  have hF : mo_fr o ma h h := mo_fr.rf
  refine lv_aload_n hx hb dX5_cap_0 rfl (lv_at hl 0 rfl) ?_
  refine mo_callv (va_runV (As := []) (rest := []) ⟨hx, hb, hml, hown, hts⟩ (met_X5_begins l G hM  ) (cwV 0 hts (lw_V q2654 q2656 qs45 q106 q2657) rfl rfl rfl (by decide +kernel) ⟨Nat.le_of_ble_eq_true rfl, Nat.le_of_ble_eq_true rfl⟩) (hv_preV hw pk_X5 hM.1) rfl rfl hl.1 rfl (lv_room (Nat.le_of_ble_eq_true rfl)) dX5_cap_1 ⟨Nat.le_of_ble_eq_true rfl, Nat.le_of_ble_eq_true rfl⟩) hw hF (fun hh H locs hM hF hw => ?_)
  refine lv_aload_n hx hb dX5_cap_4 rfl (lv_at hl 0 rfl) ?_
  refine lv_aload_n hx hb dX5_cap_5 rfl (lv_at hl 0 rfl) ?_
  refine lv_iload_n hx hb dX5_cap_6 rfl (lv_at hl 1 rfl) ?_
  refine lv_iload_n hx hb dX5_cap_7 rfl (lv_at hl 2 rfl) ?_
  refine hv_calli (va_runV (As := [.int k, .int x]) (rest := [.ref o]) ⟨hx, hb, hml, hown, hts⟩ (met_X5_caps l G hM k x (hok) (rfl)) (cwV 2 hts (lw_V q2717 q2719 qs56 q106 q2720) rfl rfl rfl (by decide +kernel) ⟨Nat.le_of_ble_eq_true rfl, Nat.le_of_ble_eq_true rfl⟩) (hv_preV hw pk_X5 hM.1) rfl rfl hl.1 rfl (lv_room (Nat.le_of_ble_eq_true rfl)) dX5_cap_8 ⟨Nat.le_of_ble_eq_true rfl, Nat.le_of_ble_eq_true rfl⟩) hw (fun r_1 hh H locs hp hw => ?_)
  obtain ⟨σ_1, hI_1, hM, hF9⟩ := hp
  have hF := hF.tr hF9
  have hI_1 : m_inn (m_beg σ) (i_caps (σ.2 0) k x) σ_1 r_1 := hI_1
  cases hrs : i_caps (σ.2 0) k x with
  | inl x9 =>
    rw [hrs] at hI_1
    refine mo_calli (va_runV (As := [.int r_1]) (rest := []) ⟨hx, hb, hml, hown, hts⟩ (met_X5_ends_ref l G hM r_1 (by rw [hI_1.1]; exact hI_1.2.1)) (cwV 1 hts (lw_V q2677 q2679 qs50 q106 q2680) rfl rfl rfl (by decide +kernel) ⟨Nat.le_of_ble_eq_true rfl, Nat.le_of_ble_eq_true rfl⟩) (hv_preV hw pk_X5 hM.1) rfl rfl hl.1 rfl (lv_room (Nat.le_of_ble_eq_true rfl)) dX5_cap_11 ⟨Nat.le_of_ble_eq_true rfl, Nat.le_of_ble_eq_true rfl⟩) hw hF (fun hh H locs hM hF hw => ?_)
    exact hret rfl hw ⟨_, by rw [hrs]; exact pub_ref hI_1, hM, hF⟩ (Nat.le_of_ble_eq_true rfl) (Nat.le_of_ble_eq_true rfl) dX5_cap_14
  | inr y9 =>
    rw [hrs] at hI_1
    obtain ⟨e9_, e8_⟩ := hI_1
    subst e9_; subst e8_
    refine mo_calli (va_runV (As := [.int y9.2]) (rest := []) ⟨hx, hb, hml, hown, hts⟩ (met_X5_ends_ok l G hM y9.2 (rfl) (h5)) (cwV 1 hts (lw_V q2677 q2679 qs50 q106 q2680) rfl rfl rfl (by decide +kernel) ⟨Nat.le_of_ble_eq_true rfl, Nat.le_of_ble_eq_true rfl⟩) (hv_preV hw pk_X5 hM.1) rfl rfl hl.1 rfl (lv_room (Nat.le_of_ble_eq_true rfl)) dX5_cap_11 ⟨Nat.le_of_ble_eq_true rfl, Nat.le_of_ble_eq_true rfl⟩) hw hF (fun hh H locs hM hF hw => ?_)
    exact hret rfl hw ⟨_, by rw [hrs]; exact pub_ok h5, hM, hF⟩ (Nat.le_of_ble_eq_true rfl) (Nat.le_of_ble_eq_true rfl) dX5_cap_14
set_option maxHeartbeats 1000000 in
theorem met_X5_earn (l : Launch) (G : hG) {h : hp} {o : Nat} {ma : Nat → Nat} {σ : MS} (hM : isMod G h o ma σ) (c9 : Int32) (x : Int32) (hok : okI (σ.2 0)) (h5 : σ.1 5 = nI (o_n (σ.1 5)) ∧ o_n (σ.1 5) ≤ 8) : hv_Mi l G yX5_earn (ws_ yX5_earn cX5_earn 3 (Option.some Jvm.ClassFile.FieldType.int)) ({ frames := 3, cells := 0, slots := 0, locals := 69 } : Room) [.ref o, .int c9, .int x] h (fun r hh => ∃ σ2, (m_pub σ (i_earns (σ.2 0) c9 x) σ2 r) ∧ isMod G hh o ma σ2 ∧ mo_fr o ma h hh) := by
  refine hv_bi .int (Or.inl rfl) (own := RX5) (by decide +kernel) rfl (Nat.le_of_ble_eq_true rfl) (fun p e s m a below meth c ls Q hx hb hml hown hts hnm hret hw hl => ?_)
  have hl : lv_has ls 3 [(0, .ref o), (1, .int c9), (2, .int x)] := hl
  have hF : mo_fr o ma h h := mo_fr.rf
  refine lv_aload_n hx hb dX5_earn_0 rfl (lv_at hl 0 rfl) ?_
  refine mo_callv (va_runV (As := []) (rest := []) ⟨hx, hb, hml, hown, hts⟩ (met_X5_begins l G hM  ) (cwV 0 hts (lw_V q2654 q2656 qs45 q106 q2657) rfl rfl rfl (by decide +kernel) ⟨Nat.le_of_ble_eq_true rfl, Nat.le_of_ble_eq_true rfl⟩) (hv_preV hw pk_X5 hM.1) rfl rfl hl.1 rfl (lv_room (Nat.le_of_ble_eq_true rfl)) dX5_earn_1 ⟨Nat.le_of_ble_eq_true rfl, Nat.le_of_ble_eq_true rfl⟩) hw hF (fun hh H locs hM hF hw => ?_)
  refine lv_aload_n hx hb dX5_earn_4 rfl (lv_at hl 0 rfl) ?_
  refine lv_aload_n hx hb dX5_earn_5 rfl (lv_at hl 0 rfl) ?_
  refine lv_iload_n hx hb dX5_earn_6 rfl (lv_at hl 1 rfl) ?_
  refine lv_iload_n hx hb dX5_earn_7 rfl (lv_at hl 2 rfl) ?_
  refine hv_calli (va_runV (As := [.int c9, .int x]) (rest := [.ref o]) ⟨hx, hb, hml, hown, hts⟩ (met_X5_earns l G hM c9 x (hok) (rfl)) (cwV 2 hts (lw_V q2732 q2734 qs57 q106 q2735) rfl rfl rfl (by decide +kernel) ⟨Nat.le_of_ble_eq_true rfl, Nat.le_of_ble_eq_true rfl⟩) (hv_preV hw pk_X5 hM.1) rfl rfl hl.1 rfl (lv_room (Nat.le_of_ble_eq_true rfl)) dX5_earn_8 ⟨Nat.le_of_ble_eq_true rfl, Nat.le_of_ble_eq_true rfl⟩) hw (fun r_1 hh H locs hp hw => ?_)
  obtain ⟨σ_1, hI_1, hM, hF9⟩ := hp
  have hF := hF.tr hF9
  have hI_1 : m_inn (m_beg σ) (i_earns (σ.2 0) c9 x) σ_1 r_1 := hI_1
  cases hrs : i_earns (σ.2 0) c9 x with
  | inl x9 =>
    rw [hrs] at hI_1
    refine mo_calli (va_runV (As := [.int r_1]) (rest := []) ⟨hx, hb, hml, hown, hts⟩ (met_X5_ends_ref l G hM r_1 (by rw [hI_1.1]; exact hI_1.2.1)) (cwV 1 hts (lw_V q2677 q2679 qs50 q106 q2680) rfl rfl rfl (by decide +kernel) ⟨Nat.le_of_ble_eq_true rfl, Nat.le_of_ble_eq_true rfl⟩) (hv_preV hw pk_X5 hM.1) rfl rfl hl.1 rfl (lv_room (Nat.le_of_ble_eq_true rfl)) dX5_earn_11 ⟨Nat.le_of_ble_eq_true rfl, Nat.le_of_ble_eq_true rfl⟩) hw hF (fun hh H locs hM hF hw => ?_)
    exact hret rfl hw ⟨_, by rw [hrs]; exact pub_ref hI_1, hM, hF⟩ (Nat.le_of_ble_eq_true rfl) (Nat.le_of_ble_eq_true rfl) dX5_earn_14
  | inr y9 =>
    rw [hrs] at hI_1
    obtain ⟨e9_, e8_⟩ := hI_1
    subst e9_; subst e8_
    refine mo_calli (va_runV (As := [.int y9.2]) (rest := []) ⟨hx, hb, hml, hown, hts⟩ (met_X5_ends_ok l G hM y9.2 (rfl) (h5)) (cwV 1 hts (lw_V q2677 q2679 qs50 q106 q2680) rfl rfl rfl (by decide +kernel) ⟨Nat.le_of_ble_eq_true rfl, Nat.le_of_ble_eq_true rfl⟩) (hv_preV hw pk_X5 hM.1) rfl rfl hl.1 rfl (lv_room (Nat.le_of_ble_eq_true rfl)) dX5_earn_11 ⟨Nat.le_of_ble_eq_true rfl, Nat.le_of_ble_eq_true rfl⟩) hw hF (fun hh H locs hM hF hw => ?_)
    exact hret rfl hw ⟨_, by rw [hrs]; exact pub_ok h5, hM, hF⟩ (Nat.le_of_ble_eq_true rfl) (Nat.le_of_ble_eq_true rfl) dX5_earn_14
set_option maxHeartbeats 1000000 in
theorem met_X5_claim (l : Launch) (G : hG) {h : hp} {o : Nat} {ma : Nat → Nat} {σ : MS} (hM : isMod G h o ma σ) (c9 : Int32) (k : Int32) (x : Int32) (pr : Prop) [Decidable pr] (hok : okI (σ.2 0)) (h5 : σ.1 5 = nI (o_n (σ.1 5)) ∧ o_n (σ.1 5) ≤ 8) : hv_Mi l G yX5_claim (ws_ yX5_claim cX5_claim 5 (Option.some Jvm.ClassFile.FieldType.int)) ({ frames := 4, cells := 0, slots := 0, locals := 92 } : Room) [.ref o, .int c9, .int k, .int x, .int (b01 pr)] h (fun r hh => ∃ σ2, (m_pub σ (i_claims (σ.2 0) c9 k x pr) σ2 r) ∧ isMod G hh o ma σ2 ∧ mo_fr o ma h hh) := by
  refine hv_bi .int (Or.inl rfl) (own := RX5) (by decide +kernel) rfl (Nat.le_of_ble_eq_true rfl) (fun p e s m a below meth c ls Q hx hb hml hown hts hnm hret hw hl => ?_)
  have hl : lv_has ls 5 [(0, .ref o), (1, .int c9), (2, .int k), (3, .int x), (4, .int (b01 pr))] := hl
  have hF : mo_fr o ma h h := mo_fr.rf
  refine lv_aload_n hx hb dX5_claim_0 rfl (lv_at hl 0 rfl) ?_
  refine mo_callv (va_runV (As := []) (rest := []) ⟨hx, hb, hml, hown, hts⟩ (met_X5_begins l G hM  ) (cwV 0 hts (lw_V q2654 q2656 qs45 q106 q2657) rfl rfl rfl (by decide +kernel) ⟨Nat.le_of_ble_eq_true rfl, Nat.le_of_ble_eq_true rfl⟩) (hv_preV hw pk_X5 hM.1) rfl rfl hl.1 rfl (lv_room (Nat.le_of_ble_eq_true rfl)) dX5_claim_1 ⟨Nat.le_of_ble_eq_true rfl, Nat.le_of_ble_eq_true rfl⟩) hw hF (fun hh H locs hM hF hw => ?_)
  refine lv_aload_n hx hb dX5_claim_4 rfl (lv_at hl 0 rfl) ?_
  refine lv_aload_n hx hb dX5_claim_5 rfl (lv_at hl 0 rfl) ?_
  refine lv_iload_n hx hb dX5_claim_6 rfl (lv_at hl 1 rfl) ?_
  refine lv_iload_n hx hb dX5_claim_7 rfl (lv_at hl 2 rfl) ?_
  refine lv_iload_n hx hb dX5_claim_8 rfl (lv_at hl 3 rfl) ?_
  refine lv_iload hx hb dX5_claim_9 (lv_at hl 4 rfl) ?_
  refine hv_calli (va_runV (As := [.int c9, .int k, .int x, .int (b01 pr)]) (rest := [.ref o]) ⟨hx, hb, hml, hown, hts⟩ (met_X5_claims l G hM c9 k x (pr) (hok) (rfl)) (cwV 4 hts (lw_V q2756 q2758 qs62 q106 q2759) rfl rfl rfl (by decide +kernel) ⟨Nat.le_of_ble_eq_true rfl, Nat.le_of_ble_eq_true rfl⟩) (hv_preV hw pk_X5 hM.1) rfl rfl hl.1 rfl (lv_room (Nat.le_of_ble_eq_true rfl)) dX5_claim_11 ⟨Nat.le_of_ble_eq_true rfl, Nat.le_of_ble_eq_true rfl⟩) hw (fun r_1 hh H locs hp hw => ?_)
  obtain ⟨σ_1, hI_1, hM, hF9⟩ := hp
  have hF := hF.tr hF9
  have hI_1 : m_inn (m_beg σ) (i_claims (σ.2 0) c9 k x pr) σ_1 r_1 := hI_1
  cases hrs : i_claims (σ.2 0) c9 k x pr with
  | inl x9 =>
    rw [hrs] at hI_1
    refine mo_calli (va_runV (As := [.int r_1]) (rest := []) ⟨hx, hb, hml, hown, hts⟩ (met_X5_ends_ref l G hM r_1 (by rw [hI_1.1]; exact hI_1.2.1)) (cwV 1 hts (lw_V q2677 q2679 qs50 q106 q2680) rfl rfl rfl (by decide +kernel) ⟨Nat.le_of_ble_eq_true rfl, Nat.le_of_ble_eq_true rfl⟩) (hv_preV hw pk_X5 hM.1) rfl rfl hl.1 rfl (lv_room (Nat.le_of_ble_eq_true rfl)) dX5_claim_14 ⟨Nat.le_of_ble_eq_true rfl, Nat.le_of_ble_eq_true rfl⟩) hw hF (fun hh H locs hM hF hw => ?_)
    exact hret rfl hw ⟨_, by rw [hrs]; exact pub_ref hI_1, hM, hF⟩ (Nat.le_of_ble_eq_true rfl) (Nat.le_of_ble_eq_true rfl) dX5_claim_17
  | inr y9 =>
    rw [hrs] at hI_1
    obtain ⟨e9_, e8_⟩ := hI_1
    subst e9_; subst e8_
    refine mo_calli (va_runV (As := [.int y9.2]) (rest := []) ⟨hx, hb, hml, hown, hts⟩ (met_X5_ends_ok l G hM y9.2 (rfl) (h5)) (cwV 1 hts (lw_V q2677 q2679 qs50 q106 q2680) rfl rfl rfl (by decide +kernel) ⟨Nat.le_of_ble_eq_true rfl, Nat.le_of_ble_eq_true rfl⟩) (hv_preV hw pk_X5 hM.1) rfl rfl hl.1 rfl (lv_room (Nat.le_of_ble_eq_true rfl)) dX5_claim_14 ⟨Nat.le_of_ble_eq_true rfl, Nat.le_of_ble_eq_true rfl⟩) hw hF (fun hh H locs hM hF hw => ?_)
    exact hret rfl hw ⟨_, by rw [hrs]; exact pub_ok h5, hM, hF⟩ (Nat.le_of_ble_eq_true rfl) (Nat.le_of_ble_eq_true rfl) dX5_claim_17
set_option maxHeartbeats 1000000 in
theorem met_X5_prove (l : Launch) (G : hG) {h : hp} {o : Nat} {ma : Nat → Nat} {σ : MS} (hM : isMod G h o ma σ) (c9 : Int32) (k : Int32) (hok : okI (σ.2 0)) (h5 : σ.1 5 = nI (o_n (σ.1 5)) ∧ o_n (σ.1 5) ≤ 8) : hv_Mi l G yX5_prove (ws_ yX5_prove cX5_prove 3 (Option.some Jvm.ClassFile.FieldType.int)) ({ frames := 3, cells := 0, slots := 0, locals := 67 } : Room) [.ref o, .int c9, .int k] h (fun r hh => ∃ σ2, (m_pub σ (i_proves (σ.2 0) c9 k) σ2 r) ∧ isMod G hh o ma σ2 ∧ mo_fr o ma h hh) := by
  refine hv_bi .int (Or.inl rfl) (own := RX5) (by decide +kernel) rfl (Nat.le_of_ble_eq_true rfl) (fun p e s m a below meth c ls Q hx hb hml hown hts hnm hret hw hl => ?_)
  have hl : lv_has ls 3 [(0, .ref o), (1, .int c9), (2, .int k)] := hl
  have hF : mo_fr o ma h h := mo_fr.rf
  refine lv_aload_n hx hb dX5_prove_0 rfl (lv_at hl 0 rfl) ?_
  refine mo_callv (va_runV (As := []) (rest := []) ⟨hx, hb, hml, hown, hts⟩ (met_X5_begins l G hM  ) (cwV 0 hts (lw_V q2654 q2656 qs45 q106 q2657) rfl rfl rfl (by decide +kernel) ⟨Nat.le_of_ble_eq_true rfl, Nat.le_of_ble_eq_true rfl⟩) (hv_preV hw pk_X5 hM.1) rfl rfl hl.1 rfl (lv_room (Nat.le_of_ble_eq_true rfl)) dX5_prove_1 ⟨Nat.le_of_ble_eq_true rfl, Nat.le_of_ble_eq_true rfl⟩) hw hF (fun hh H locs hM hF hw => ?_)
  refine lv_aload_n hx hb dX5_prove_4 rfl (lv_at hl 0 rfl) ?_
  refine lv_aload_n hx hb dX5_prove_5 rfl (lv_at hl 0 rfl) ?_
  refine lv_iload_n hx hb dX5_prove_6 rfl (lv_at hl 1 rfl) ?_
  refine lv_iload_n hx hb dX5_prove_7 rfl (lv_at hl 2 rfl) ?_
  refine hv_calli (va_runV (As := [.int c9, .int k]) (rest := [.ref o]) ⟨hx, hb, hml, hown, hts⟩ (met_X5_proves l G hM c9 k (hok) (rfl)) (cwV 2 hts (lw_V q2777 q2779 qs66 q106 q2780) rfl rfl rfl (by decide +kernel) ⟨Nat.le_of_ble_eq_true rfl, Nat.le_of_ble_eq_true rfl⟩) (hv_preV hw pk_X5 hM.1) rfl rfl hl.1 rfl (lv_room (Nat.le_of_ble_eq_true rfl)) dX5_prove_8 ⟨Nat.le_of_ble_eq_true rfl, Nat.le_of_ble_eq_true rfl⟩) hw (fun r_1 hh H locs hp hw => ?_)
  obtain ⟨σ_1, hI_1, hM, hF9⟩ := hp
  have hF := hF.tr hF9
  have hI_1 : m_inn (m_beg σ) (i_proves (σ.2 0) c9 k) σ_1 r_1 := hI_1
  cases hrs : i_proves (σ.2 0) c9 k with
  | inl x9 =>
    rw [hrs] at hI_1
    refine mo_calli (va_runV (As := [.int r_1]) (rest := []) ⟨hx, hb, hml, hown, hts⟩ (met_X5_ends_ref l G hM r_1 (by rw [hI_1.1]; exact hI_1.2.1)) (cwV 1 hts (lw_V q2677 q2679 qs50 q106 q2680) rfl rfl rfl (by decide +kernel) ⟨Nat.le_of_ble_eq_true rfl, Nat.le_of_ble_eq_true rfl⟩) (hv_preV hw pk_X5 hM.1) rfl rfl hl.1 rfl (lv_room (Nat.le_of_ble_eq_true rfl)) dX5_prove_11 ⟨Nat.le_of_ble_eq_true rfl, Nat.le_of_ble_eq_true rfl⟩) hw hF (fun hh H locs hM hF hw => ?_)
    exact hret rfl hw ⟨_, by rw [hrs]; exact pub_ref hI_1, hM, hF⟩ (Nat.le_of_ble_eq_true rfl) (Nat.le_of_ble_eq_true rfl) dX5_prove_14
  | inr y9 =>
    rw [hrs] at hI_1
    obtain ⟨e9_, e8_⟩ := hI_1
    subst e9_; subst e8_
    refine mo_calli (va_runV (As := [.int y9.2]) (rest := []) ⟨hx, hb, hml, hown, hts⟩ (met_X5_ends_ok l G hM y9.2 (rfl) (h5)) (cwV 1 hts (lw_V q2677 q2679 qs50 q106 q2680) rfl rfl rfl (by decide +kernel) ⟨Nat.le_of_ble_eq_true rfl, Nat.le_of_ble_eq_true rfl⟩) (hv_preV hw pk_X5 hM.1) rfl rfl hl.1 rfl (lv_room (Nat.le_of_ble_eq_true rfl)) dX5_prove_11 ⟨Nat.le_of_ble_eq_true rfl, Nat.le_of_ble_eq_true rfl⟩) hw hF (fun hh H locs hM hF hw => ?_)
    exact hret rfl hw ⟨_, by rw [hrs]; exact pub_ok h5, hM, hF⟩ (Nat.le_of_ble_eq_true rfl) (Nat.le_of_ble_eq_true rfl) dX5_prove_14
set_option maxHeartbeats 1000000 in
theorem met_X5_credit (l : Launch) (G : hG) {h : hp} {o : Nat} {ma : Nat → Nat} {σ : MS} (hM : isMod G h o ma σ) (x : Int32) (f9 : Int32) (s9 : Int32) (hok : okI (σ.2 0)) (h5 : σ.1 5 = nI (o_n (σ.1 5)) ∧ o_n (σ.1 5) ≤ 8) : hv_Mi l G yX5_credit (ws_ yX5_credit cX5_credit 5 (Option.some Jvm.ClassFile.FieldType.int)) ({ frames := 3, cells := 0, slots := 0, locals := 66 } : Room) [.ref o, .int x, .int f9, .int s9] h (fun r hh => ∃ σ2, (m_pub σ (i_credit (σ.2 0) x f9 s9) σ2 r) ∧ isMod G hh o ma σ2 ∧ mo_fr o ma h hh) := by
  refine hv_bi .int (Or.inl rfl) (own := RX5) (by decide +kernel) rfl (Nat.le_of_ble_eq_true rfl) (fun p e s m a below meth c ls Q hx hb hml hown hts hnm hret hw hl => ?_)
  have hl : lv_has ls 5 [(0, .ref o), (1, .int x), (2, .int f9), (3, .int s9)] := hl
  have hF : mo_fr o ma h h := mo_fr.rf
  have h16 : (m_beg σ).1 16 = 0 := rfl
  have hq5 := hok.2.2.2.1
  refine lv_aload_n hx hb dX5_credit_0 rfl (lv_at hl 0 rfl) ?_
  refine mo_callv (va_runV (As := []) (rest := []) ⟨hx, hb, hml, hown, hts⟩ (met_X5_begins l G hM  ) (cwV 0 hts (lw_V q2654 q2656 qs45 q106 q2657) rfl rfl rfl (by decide +kernel) ⟨Nat.le_of_ble_eq_true rfl, Nat.le_of_ble_eq_true rfl⟩) (hv_preV hw pk_X5 hM.1) rfl rfl hl.1 rfl (lv_room (Nat.le_of_ble_eq_true rfl)) dX5_credit_1 ⟨Nat.le_of_ble_eq_true rfl, Nat.le_of_ble_eq_true rfl⟩) hw hF (fun hh H locs hM hF hw => ?_)
  refine lv_aload_n hx hb dX5_credit_4 rfl (lv_at hl 0 rfl) ?_
  refine lv_iload_n hx hb dX5_credit_5 rfl (lv_at hl 1 rfl) ?_
  refine lv_iconst (v := 0) hx hb dX5_credit_6 (by decide) ?_
  refine lv_sipush (v := 200) hx hb dX5_credit_7 (by decide) ?_
  refine mo_callv (va_runV (As := [.int x, .int 0, .int 200]) (rest := []) ⟨hx, hb, hml, hown, hts⟩ (met_X5_hindersRange l G hM x 0 200 ) (cwV 3 hts (lw_V q2662 q2664 qs47 q106 q2665) rfl rfl rfl (by decide +kernel) ⟨Nat.le_of_ble_eq_true rfl, Nat.le_of_ble_eq_true rfl⟩) (hv_preV hw pk_X5 hM.1) rfl rfl hl.1 rfl (lv_room (Nat.le_of_ble_eq_true rfl)) dX5_credit_10 ⟨Nat.le_of_ble_eq_true rfl, Nat.le_of_ble_eq_true rfl⟩) hw hF (fun hh H locs hM hF hw => ?_)
  by_cases hP10 : ¬ (0 ≤ x ∧ x ≤ 200)
  · skip
    rw [mo_hin_t hP10 h16] at hM
    have hm9 := m_ref.of (m_beg σ) (w := 3) (t := x) (by decide)
    refine lv_aload_n hx hb dX5_credit_13 rfl (lv_at hl 0 rfl) ?_
    refine lv_iload_n hx hb dX5_credit_14 rfl (lv_at hl 2 rfl) ?_
    refine lv_iconst (v := 0) hx hb dX5_credit_15 (by decide) ?_
    refine lv_sipush (v := 9999) hx hb dX5_credit_16 (by decide) ?_
    refine mo_callv (va_runV (As := [.int f9, .int 0, .int 9999]) (rest := []) ⟨hx, hb, hml, hown, hts⟩ (met_X5_hindersRange l G hM f9 0 9999 ) (cwV 3 hts (lw_V q2662 q2664 qs47 q106 q2665) rfl rfl rfl (by decide +kernel) ⟨Nat.le_of_ble_eq_true rfl, Nat.le_of_ble_eq_true rfl⟩) (hv_preV hw pk_X5 hM.1) rfl rfl hl.1 rfl (lv_room (Nat.le_of_ble_eq_true rfl)) dX5_credit_19 ⟨Nat.le_of_ble_eq_true rfl, Nat.le_of_ble_eq_true rfl⟩) hw hF (fun hh H locs hM hF hw => ?_)
    rw [mo_hin_r ((by rw [hm9.1]; exact hm9.2.1))] at hM
    refine lv_aload_n hx hb dX5_credit_22 rfl (lv_at hl 0 rfl) ?_
    refine lv_iload_n hx hb dX5_credit_23 rfl (lv_at hl 3 rfl) ?_
    refine lv_iconst (v := 0) hx hb dX5_credit_24 (by decide) ?_
    refine lv_bipush (v := 30) hx hb dX5_credit_25 (by decide) ?_
    refine mo_callv (va_runV (As := [.int s9, .int 0, .int 30]) (rest := []) ⟨hx, hb, hml, hown, hts⟩ (met_X5_hindersRange l G hM s9 0 30 ) (cwV 3 hts (lw_V q2662 q2664 qs47 q106 q2665) rfl rfl rfl (by decide +kernel) ⟨Nat.le_of_ble_eq_true rfl, Nat.le_of_ble_eq_true rfl⟩) (hv_preV hw pk_X5 hM.1) rfl rfl hl.1 rfl (lv_room (Nat.le_of_ble_eq_true rfl)) dX5_credit_27 ⟨Nat.le_of_ble_eq_true rfl, Nat.le_of_ble_eq_true rfl⟩) hw hF (fun hh H locs hM hF hw => ?_)
    rw [mo_hin_r ((by rw [hm9.1]; exact hm9.2.1))] at hM
    refine lv_aload_n hx hb dX5_credit_30 rfl (lv_at hl 0 rfl) ?_
    refine mo_get hx hb hts hown hw hM 0 (by decide) q2554 rfl (v := .ref (ma 0)) rfl dX5_credit_31 ?_
    refine lv_iconst (v := 2) hx hb dX5_credit_34 (by decide) ?_
    refine mo_ald hx hb hw hM 0 rfl (j := 2) rfl (show 2 < 137 by omega) dX5_credit_35 ?_
    refine lv_istore (lv' := [(4, .int ((m_beg σ).2 0 2)), (0, .ref o), (1, .int x), (2, .int f9), (3, .int s9)]) hx hb dX5_credit_36 hl (by decide) rfl (fun ls hl => ?_)
    refine lv_aload_n hx hb dX5_credit_38 rfl (lv_at hl 1 rfl) ?_
    refine mo_get hx hb hts hown hw hM 0 (by decide) q2554 rfl (v := .ref (ma 0)) rfl dX5_credit_39 ?_
    refine lv_iconst (v := 2) hx hb dX5_credit_42 (by decide) ?_
    refine lv_iload_n hx hb dX5_credit_43 rfl (lv_at hl 2 rfl) ?_
    refine mo_ast hx hb hw hM hF 0 rfl (j := 2) rfl (show 2 < 137 by omega) dX5_credit_44 (fun hh H locs hM hF hw => ?_)
    refine lv_aload_n hx hb dX5_credit_45 rfl (lv_at hl 1 rfl) ?_
    refine mo_get hx hb hts hown hw hM 0 (by decide) q2554 rfl (v := .ref (ma 0)) rfl dX5_credit_46 ?_
    refine lv_iconst (v := 3) hx hb dX5_credit_49 (by decide) ?_
    refine lv_iload_n hx hb dX5_credit_50 rfl (lv_at hl 3 rfl) ?_
    refine mo_ast hx hb hw hM hF 0 rfl (j := 3) rfl (show 3 < 137 by omega) dX5_credit_51 (fun hh H locs hM hF hw => ?_)
    refine lv_aload_n hx hb dX5_credit_52 rfl (lv_at hl 1 rfl) ?_
    refine mo_get hx hb hts hown hw hM 0 (by decide) q2554 rfl (v := .ref (ma 0)) rfl dX5_credit_53 ?_
    refine lv_iconst (v := 4) hx hb dX5_credit_56 (by decide) ?_
    refine lv_iload_n hx hb dX5_credit_57 rfl (lv_at hl 4 rfl) ?_
    refine mo_ast hx hb hw hM hF 0 rfl (j := 4) rfl (show 4 < 137 by omega) dX5_credit_58 (fun hh H locs hM hF hw => ?_)
    refine lv_aload_n hx hb dX5_credit_59 rfl (lv_at hl 1 rfl) ?_
    refine lv_iload hx hb dX5_credit_60 (lv_at hl 0 rfl) ?_
    have hm8 : m_ref (m_beg σ) (mo_sa (mo_sa (mo_sa (mo_st (mo_st (m_beg σ) 16 3) 17 x) 0 2 x) 0 3 f9) 0 4 s9) 3 x := (((hm9.sa _ _).sa _ _).sa _ _)
    refine mo_calli (va_runV (As := [.int ((m_beg σ).2 0 2)]) (rest := []) ⟨hx, hb, hml, hown, hts⟩ (met_X5_ends_ref l G hM ((m_beg σ).2 0 2) (fun z => hm8.2.1 (hm8.1.symm.trans z))) (cwV 1 hts (lw_V q2677 q2679 qs50 q106 q2680) rfl rfl rfl (by decide +kernel) ⟨Nat.le_of_ble_eq_true rfl, Nat.le_of_ble_eq_true rfl⟩) (hv_preV hw pk_X5 hM.1) rfl rfl hl.1 rfl (lv_room (Nat.le_of_ble_eq_true rfl)) dX5_credit_62 ⟨Nat.le_of_ble_eq_true rfl, Nat.le_of_ble_eq_true rfl⟩) hw hF (fun hh H locs hM hF hw => ?_)
    exact hret rfl hw ⟨_, by unfold i_credit; rw [if_pos hP10]; exact pub_ref hm8, hM, hF⟩ (Nat.le_of_ble_eq_true rfl) (Nat.le_of_ble_eq_true rfl) dX5_credit_65
  · skip
    rw [mo_hin_f hP10] at hM
    refine lv_aload_n hx hb dX5_credit_13 rfl (lv_at hl 0 rfl) ?_
    refine lv_iload_n hx hb dX5_credit_14 rfl (lv_at hl 2 rfl) ?_
    refine lv_iconst (v := 0) hx hb dX5_credit_15 (by decide) ?_
    refine lv_sipush (v := 9999) hx hb dX5_credit_16 (by decide) ?_
    refine mo_callv (va_runV (As := [.int f9, .int 0, .int 9999]) (rest := []) ⟨hx, hb, hml, hown, hts⟩ (met_X5_hindersRange l G hM f9 0 9999 ) (cwV 3 hts (lw_V q2662 q2664 qs47 q106 q2665) rfl rfl rfl (by decide +kernel) ⟨Nat.le_of_ble_eq_true rfl, Nat.le_of_ble_eq_true rfl⟩) (hv_preV hw pk_X5 hM.1) rfl rfl hl.1 rfl (lv_room (Nat.le_of_ble_eq_true rfl)) dX5_credit_19 ⟨Nat.le_of_ble_eq_true rfl, Nat.le_of_ble_eq_true rfl⟩) hw hF (fun hh H locs hM hF hw => ?_)
    by_cases hP19 : ¬ (0 ≤ f9 ∧ f9 ≤ 9999)
    · skip
      rw [mo_hin_t hP19 h16] at hM
      have hm9 := m_ref.of (m_beg σ) (w := 3) (t := f9) (by decide)
      refine lv_aload_n hx hb dX5_credit_22 rfl (lv_at hl 0 rfl) ?_
      refine lv_iload_n hx hb dX5_credit_23 rfl (lv_at hl 3 rfl) ?_
      refine lv_iconst (v := 0) hx hb dX5_credit_24 (by decide) ?_
      refine lv_bipush (v := 30) hx hb dX5_credit_25 (by decide) ?_
      refine mo_callv (va_runV (As := [.int s9, .int 0, .int 30]) (rest := []) ⟨hx, hb, hml, hown, hts⟩ (met_X5_hindersRange l G hM s9 0 30 ) (cwV 3 hts (lw_V q2662 q2664 qs47 q106 q2665) rfl rfl rfl (by decide +kernel) ⟨Nat.le_of_ble_eq_true rfl, Nat.le_of_ble_eq_true rfl⟩) (hv_preV hw pk_X5 hM.1) rfl rfl hl.1 rfl (lv_room (Nat.le_of_ble_eq_true rfl)) dX5_credit_27 ⟨Nat.le_of_ble_eq_true rfl, Nat.le_of_ble_eq_true rfl⟩) hw hF (fun hh H locs hM hF hw => ?_)
      rw [mo_hin_r ((by rw [hm9.1]; exact hm9.2.1))] at hM
      refine lv_aload_n hx hb dX5_credit_30 rfl (lv_at hl 0 rfl) ?_
      refine mo_get hx hb hts hown hw hM 0 (by decide) q2554 rfl (v := .ref (ma 0)) rfl dX5_credit_31 ?_
      refine lv_iconst (v := 2) hx hb dX5_credit_34 (by decide) ?_
      refine mo_ald hx hb hw hM 0 rfl (j := 2) rfl (show 2 < 137 by omega) dX5_credit_35 ?_
      refine lv_istore (lv' := [(4, .int ((m_beg σ).2 0 2)), (0, .ref o), (1, .int x), (2, .int f9), (3, .int s9)]) hx hb dX5_credit_36 hl (by decide) rfl (fun ls hl => ?_)
      refine lv_aload_n hx hb dX5_credit_38 rfl (lv_at hl 1 rfl) ?_
      refine mo_get hx hb hts hown hw hM 0 (by decide) q2554 rfl (v := .ref (ma 0)) rfl dX5_credit_39 ?_
      refine lv_iconst (v := 2) hx hb dX5_credit_42 (by decide) ?_
      refine lv_iload_n hx hb dX5_credit_43 rfl (lv_at hl 2 rfl) ?_
      refine mo_ast hx hb hw hM hF 0 rfl (j := 2) rfl (show 2 < 137 by omega) dX5_credit_44 (fun hh H locs hM hF hw => ?_)
      refine lv_aload_n hx hb dX5_credit_45 rfl (lv_at hl 1 rfl) ?_
      refine mo_get hx hb hts hown hw hM 0 (by decide) q2554 rfl (v := .ref (ma 0)) rfl dX5_credit_46 ?_
      refine lv_iconst (v := 3) hx hb dX5_credit_49 (by decide) ?_
      refine lv_iload_n hx hb dX5_credit_50 rfl (lv_at hl 3 rfl) ?_
      refine mo_ast hx hb hw hM hF 0 rfl (j := 3) rfl (show 3 < 137 by omega) dX5_credit_51 (fun hh H locs hM hF hw => ?_)
      refine lv_aload_n hx hb dX5_credit_52 rfl (lv_at hl 1 rfl) ?_
      refine mo_get hx hb hts hown hw hM 0 (by decide) q2554 rfl (v := .ref (ma 0)) rfl dX5_credit_53 ?_
      refine lv_iconst (v := 4) hx hb dX5_credit_56 (by decide) ?_
      refine lv_iload_n hx hb dX5_credit_57 rfl (lv_at hl 4 rfl) ?_
      refine mo_ast hx hb hw hM hF 0 rfl (j := 4) rfl (show 4 < 137 by omega) dX5_credit_58 (fun hh H locs hM hF hw => ?_)
      refine lv_aload_n hx hb dX5_credit_59 rfl (lv_at hl 1 rfl) ?_
      refine lv_iload hx hb dX5_credit_60 (lv_at hl 0 rfl) ?_
      have hm8 : m_ref (m_beg σ) (mo_sa (mo_sa (mo_sa (mo_st (mo_st (m_beg σ) 16 3) 17 f9) 0 2 x) 0 3 f9) 0 4 s9) 3 f9 := (((hm9.sa _ _).sa _ _).sa _ _)
      refine mo_calli (va_runV (As := [.int ((m_beg σ).2 0 2)]) (rest := []) ⟨hx, hb, hml, hown, hts⟩ (met_X5_ends_ref l G hM ((m_beg σ).2 0 2) (fun z => hm8.2.1 (hm8.1.symm.trans z))) (cwV 1 hts (lw_V q2677 q2679 qs50 q106 q2680) rfl rfl rfl (by decide +kernel) ⟨Nat.le_of_ble_eq_true rfl, Nat.le_of_ble_eq_true rfl⟩) (hv_preV hw pk_X5 hM.1) rfl rfl hl.1 rfl (lv_room (Nat.le_of_ble_eq_true rfl)) dX5_credit_62 ⟨Nat.le_of_ble_eq_true rfl, Nat.le_of_ble_eq_true rfl⟩) hw hF (fun hh H locs hM hF hw => ?_)
      exact hret rfl hw ⟨_, by unfold i_credit; rw [if_neg hP10, if_pos hP19]; exact pub_ref hm8, hM, hF⟩ (Nat.le_of_ble_eq_true rfl) (Nat.le_of_ble_eq_true rfl) dX5_credit_65
    · skip
      rw [mo_hin_f hP19] at hM
      refine lv_aload_n hx hb dX5_credit_22 rfl (lv_at hl 0 rfl) ?_
      refine lv_iload_n hx hb dX5_credit_23 rfl (lv_at hl 3 rfl) ?_
      refine lv_iconst (v := 0) hx hb dX5_credit_24 (by decide) ?_
      refine lv_bipush (v := 30) hx hb dX5_credit_25 (by decide) ?_
      refine mo_callv (va_runV (As := [.int s9, .int 0, .int 30]) (rest := []) ⟨hx, hb, hml, hown, hts⟩ (met_X5_hindersRange l G hM s9 0 30 ) (cwV 3 hts (lw_V q2662 q2664 qs47 q106 q2665) rfl rfl rfl (by decide +kernel) ⟨Nat.le_of_ble_eq_true rfl, Nat.le_of_ble_eq_true rfl⟩) (hv_preV hw pk_X5 hM.1) rfl rfl hl.1 rfl (lv_room (Nat.le_of_ble_eq_true rfl)) dX5_credit_27 ⟨Nat.le_of_ble_eq_true rfl, Nat.le_of_ble_eq_true rfl⟩) hw hF (fun hh H locs hM hF hw => ?_)
      by_cases hP27 : ¬ (0 ≤ s9 ∧ s9 ≤ 30)
      · skip
        rw [mo_hin_t hP27 h16] at hM
        have hm9 := m_ref.of (m_beg σ) (w := 3) (t := s9) (by decide)
        refine lv_aload_n hx hb dX5_credit_30 rfl (lv_at hl 0 rfl) ?_
        refine mo_get hx hb hts hown hw hM 0 (by decide) q2554 rfl (v := .ref (ma 0)) rfl dX5_credit_31 ?_
        refine lv_iconst (v := 2) hx hb dX5_credit_34 (by decide) ?_
        refine mo_ald hx hb hw hM 0 rfl (j := 2) rfl (show 2 < 137 by omega) dX5_credit_35 ?_
        refine lv_istore (lv' := [(4, .int ((m_beg σ).2 0 2)), (0, .ref o), (1, .int x), (2, .int f9), (3, .int s9)]) hx hb dX5_credit_36 hl (by decide) rfl (fun ls hl => ?_)
        refine lv_aload_n hx hb dX5_credit_38 rfl (lv_at hl 1 rfl) ?_
        refine mo_get hx hb hts hown hw hM 0 (by decide) q2554 rfl (v := .ref (ma 0)) rfl dX5_credit_39 ?_
        refine lv_iconst (v := 2) hx hb dX5_credit_42 (by decide) ?_
        refine lv_iload_n hx hb dX5_credit_43 rfl (lv_at hl 2 rfl) ?_
        refine mo_ast hx hb hw hM hF 0 rfl (j := 2) rfl (show 2 < 137 by omega) dX5_credit_44 (fun hh H locs hM hF hw => ?_)
        refine lv_aload_n hx hb dX5_credit_45 rfl (lv_at hl 1 rfl) ?_
        refine mo_get hx hb hts hown hw hM 0 (by decide) q2554 rfl (v := .ref (ma 0)) rfl dX5_credit_46 ?_
        refine lv_iconst (v := 3) hx hb dX5_credit_49 (by decide) ?_
        refine lv_iload_n hx hb dX5_credit_50 rfl (lv_at hl 3 rfl) ?_
        refine mo_ast hx hb hw hM hF 0 rfl (j := 3) rfl (show 3 < 137 by omega) dX5_credit_51 (fun hh H locs hM hF hw => ?_)
        refine lv_aload_n hx hb dX5_credit_52 rfl (lv_at hl 1 rfl) ?_
        refine mo_get hx hb hts hown hw hM 0 (by decide) q2554 rfl (v := .ref (ma 0)) rfl dX5_credit_53 ?_
        refine lv_iconst (v := 4) hx hb dX5_credit_56 (by decide) ?_
        refine lv_iload_n hx hb dX5_credit_57 rfl (lv_at hl 4 rfl) ?_
        refine mo_ast hx hb hw hM hF 0 rfl (j := 4) rfl (show 4 < 137 by omega) dX5_credit_58 (fun hh H locs hM hF hw => ?_)
        refine lv_aload_n hx hb dX5_credit_59 rfl (lv_at hl 1 rfl) ?_
        refine lv_iload hx hb dX5_credit_60 (lv_at hl 0 rfl) ?_
        have hm8 : m_ref (m_beg σ) (mo_sa (mo_sa (mo_sa (mo_st (mo_st (m_beg σ) 16 3) 17 s9) 0 2 x) 0 3 f9) 0 4 s9) 3 s9 := (((hm9.sa _ _).sa _ _).sa _ _)
        refine mo_calli (va_runV (As := [.int ((m_beg σ).2 0 2)]) (rest := []) ⟨hx, hb, hml, hown, hts⟩ (met_X5_ends_ref l G hM ((m_beg σ).2 0 2) (fun z => hm8.2.1 (hm8.1.symm.trans z))) (cwV 1 hts (lw_V q2677 q2679 qs50 q106 q2680) rfl rfl rfl (by decide +kernel) ⟨Nat.le_of_ble_eq_true rfl, Nat.le_of_ble_eq_true rfl⟩) (hv_preV hw pk_X5 hM.1) rfl rfl hl.1 rfl (lv_room (Nat.le_of_ble_eq_true rfl)) dX5_credit_62 ⟨Nat.le_of_ble_eq_true rfl, Nat.le_of_ble_eq_true rfl⟩) hw hF (fun hh H locs hM hF hw => ?_)
        exact hret rfl hw ⟨_, by unfold i_credit; rw [if_neg hP10, if_neg hP19, if_pos hP27]; exact pub_ref hm8, hM, hF⟩ (Nat.le_of_ble_eq_true rfl) (Nat.le_of_ble_eq_true rfl) dX5_credit_65
      · skip
        rw [mo_hin_f hP27] at hM
        refine lv_aload_n hx hb dX5_credit_30 rfl (lv_at hl 0 rfl) ?_
        refine mo_get hx hb hts hown hw hM 0 (by decide) q2554 rfl (v := .ref (ma 0)) rfl dX5_credit_31 ?_
        refine lv_iconst (v := 2) hx hb dX5_credit_34 (by decide) ?_
        refine mo_ald hx hb hw hM 0 rfl (j := 2) rfl (show 2 < 137 by omega) dX5_credit_35 ?_
        refine lv_istore (lv' := [(4, .int ((m_beg σ).2 0 2)), (0, .ref o), (1, .int x), (2, .int f9), (3, .int s9)]) hx hb dX5_credit_36 hl (by decide) rfl (fun ls hl => ?_)
        refine lv_aload_n hx hb dX5_credit_38 rfl (lv_at hl 1 rfl) ?_
        refine mo_get hx hb hts hown hw hM 0 (by decide) q2554 rfl (v := .ref (ma 0)) rfl dX5_credit_39 ?_
        refine lv_iconst (v := 2) hx hb dX5_credit_42 (by decide) ?_
        refine lv_iload_n hx hb dX5_credit_43 rfl (lv_at hl 2 rfl) ?_
        refine mo_ast hx hb hw hM hF 0 rfl (j := 2) rfl (show 2 < 137 by omega) dX5_credit_44 (fun hh H locs hM hF hw => ?_)
        refine lv_aload_n hx hb dX5_credit_45 rfl (lv_at hl 1 rfl) ?_
        refine mo_get hx hb hts hown hw hM 0 (by decide) q2554 rfl (v := .ref (ma 0)) rfl dX5_credit_46 ?_
        refine lv_iconst (v := 3) hx hb dX5_credit_49 (by decide) ?_
        refine lv_iload_n hx hb dX5_credit_50 rfl (lv_at hl 3 rfl) ?_
        refine mo_ast hx hb hw hM hF 0 rfl (j := 3) rfl (show 3 < 137 by omega) dX5_credit_51 (fun hh H locs hM hF hw => ?_)
        refine lv_aload_n hx hb dX5_credit_52 rfl (lv_at hl 1 rfl) ?_
        refine mo_get hx hb hts hown hw hM 0 (by decide) q2554 rfl (v := .ref (ma 0)) rfl dX5_credit_53 ?_
        refine lv_iconst (v := 4) hx hb dX5_credit_56 (by decide) ?_
        refine lv_iload_n hx hb dX5_credit_57 rfl (lv_at hl 4 rfl) ?_
        refine mo_ast hx hb hw hM hF 0 rfl (j := 4) rfl (show 4 < 137 by omega) dX5_credit_58 (fun hh H locs hM hF hw => ?_)
        refine lv_aload_n hx hb dX5_credit_59 rfl (lv_at hl 1 rfl) ?_
        refine lv_iload hx hb dX5_credit_60 (lv_at hl 0 rfl) ?_
        have hM : isMod G hh o ma (mo_na (m_beg σ) (upd (upd (upd (σ.2 0) 2 x) 3 f9) 4 s9)) := by have h9 := hM; simp only [mo_sa_na, mo_na_na, mo_na_2] at h9; exact h9
        refine mo_calli (va_runV (As := [.int ((m_beg σ).2 0 2)]) (rest := []) ⟨hx, hb, hml, hown, hts⟩ (met_X5_ends_ok l G hM ((m_beg σ).2 0 2) (rfl) (h5)) (cwV 1 hts (lw_V q2677 q2679 qs50 q106 q2680) rfl rfl rfl (by decide +kernel) ⟨Nat.le_of_ble_eq_true rfl, Nat.le_of_ble_eq_true rfl⟩) (hv_preV hw pk_X5 hM.1) rfl rfl hl.1 rfl (lv_room (Nat.le_of_ble_eq_true rfl)) dX5_credit_62 ⟨Nat.le_of_ble_eq_true rfl, Nat.le_of_ble_eq_true rfl⟩) hw hF (fun hh H locs hM hF hw => ?_)
        exact hret rfl hw ⟨_, by unfold i_credit; rw [if_neg hP10, if_neg hP19, if_neg hP27]; exact pub_ok h5, hM, hF⟩ (Nat.le_of_ble_eq_true rfl) (Nat.le_of_ble_eq_true rfl) dX5_credit_65
set_option maxHeartbeats 1000000 in
theorem met_X5_citizen (l : Launch) (G : hG) {h : hp} {o : Nat} {ma : Nat → Nat} {σ : MS} (hM : isMod G h o ma σ)  (hok : okI (σ.2 0)) (h5 : σ.1 5 = nI (o_n (σ.1 5)) ∧ o_n (σ.1 5) ≤ 8) : hv_Mi l G yX5_citizen (ws_ yX5_citizen cX5_citizen 1 (Option.some Jvm.ClassFile.FieldType.int)) ({ frames := 3, cells := 0, slots := 0, locals := 66 } : Room) [.ref o] h (fun r hh => ∃ σ2, (m_pub σ (i_comes (σ.2 0)) σ2 r) ∧ isMod G hh o ma σ2 ∧ mo_fr o ma h hh) := by
  refine hv_bi .int (Or.inl rfl) (own := RX5) (by decide +kernel) rfl (Nat.le_of_ble_eq_true rfl) (fun p e s m a below meth c ls Q hx hb hml hown hts hnm hret hw hl => ?_)
  have hl : lv_has ls 1 [(0, .ref o)] := hl
  have hF : mo_fr o ma h h := mo_fr.rf
  have h16 : (m_beg σ).1 16 = 0 := rfl
  have hq5 := hok.2.2.2.1
  refine lv_aload_n hx hb dX5_citizen_0 rfl (lv_at hl 0 rfl) ?_
  refine mo_callv (va_runV (As := []) (rest := []) ⟨hx, hb, hml, hown, hts⟩ (met_X5_begins l G hM  ) (cwV 0 hts (lw_V q2654 q2656 qs45 q106 q2657) rfl rfl rfl (by decide +kernel) ⟨Nat.le_of_ble_eq_true rfl, Nat.le_of_ble_eq_true rfl⟩) (hv_preV hw pk_X5 hM.1) rfl rfl hl.1 rfl (lv_room (Nat.le_of_ble_eq_true rfl)) dX5_citizen_1 ⟨Nat.le_of_ble_eq_true rfl, Nat.le_of_ble_eq_true rfl⟩) hw hF (fun hh H locs hM hF hw => ?_)
  refine lv_aload_n hx hb dX5_citizen_4 rfl (lv_at hl 0 rfl) ?_
  refine lv_aload_n hx hb dX5_citizen_5 rfl (lv_at hl 0 rfl) ?_
  refine mo_get hx hb hts hown hw hM 0 (by decide) q2554 rfl (v := .ref (ma 0)) rfl dX5_citizen_6 ?_
  refine lv_iconst (v := 5) hx hb dX5_citizen_9 (by decide) ?_
  refine mo_ald hx hb hw hM 0 rfl (j := 5) rfl (show 5 < 137 by omega) dX5_citizen_10 ?_
  refine lv_bipush (v := 6) hx hb dX5_citizen_11 (by decide) ?_
  refine lv_mat1 (P := ((m_beg σ).2 0 5) = 6) (j := 21) (fun k1 k2 => lv_icmp_ne (tgt := 20) hx hb dX5_citizen_13 (by decide) (fun c => lv_iconst (v := 0) hx hb dX5_citizen_20 (by decide) (k2 c)) (fun c => lv_iconst (v := 1) hx hb dX5_citizen_16 (by decide) (lv_goto (tgt := 21) hx hb dX5_citizen_17 (by decide) (k1 c)))) ?_
  refine lv_iconst (v := 1) hx hb dX5_citizen_21 (by decide) ?_
  refine lv_bipush (v := 6) hx hb dX5_citizen_22 (by decide) ?_
  refine mo_callv (va_runV (As := [.int (b01 (((m_beg σ).2 0 5) = 6)), .int 1, .int 6]) (rest := []) ⟨hx, hb, hml, hown, hts⟩ (met_X5_hinders l G hM (((m_beg σ).2 0 5) = 6) 1 6 ) (cwV 3 hts (lw_V q2669 q2671 qs48 q106 q2672) rfl rfl rfl (by decide +kernel) ⟨Nat.le_of_ble_eq_true rfl, Nat.le_of_ble_eq_true rfl⟩) (hv_preV hw pk_X5 hM.1) rfl rfl hl.1 rfl (lv_room (Nat.le_of_ble_eq_true rfl)) dX5_citizen_24 ⟨Nat.le_of_ble_eq_true rfl, Nat.le_of_ble_eq_true rfl⟩) hw hF (fun hh H locs hM hF hw => ?_)
  by_cases hP24 : ((m_beg σ).2 0 5) = 6
  · skip
    rw [mo_hin_t hP24 h16] at hM
    have hm9 := m_ref.of (m_beg σ) (w := 1) (t := 6) (by decide)
    refine lv_aload_n hx hb dX5_citizen_27 rfl (lv_at hl 0 rfl) ?_
    refine mo_get hx hb hts hown hw hM 0 (by decide) q2554 rfl (v := .ref (ma 0)) rfl dX5_citizen_28 ?_
    refine lv_iconst (v := 5) hx hb dX5_citizen_31 (by decide) ?_
    refine lv_dup2_11 hx hb dX5_citizen_32 rfl rfl ?_
    refine mo_ald hx hb hw hM 0 rfl (j := 5) rfl (show 5 < 137 by omega) dX5_citizen_33 ?_
    refine lv_iconst (v := 1) hx hb dX5_citizen_34 (by decide) ?_
    refine lv_iadd hx hb dX5_citizen_35 ?_
    refine mo_ast hx hb hw hM hF 0 rfl (j := 5) rfl (show 5 < 137 by omega) dX5_citizen_36 (fun hh H locs hM hF hw => ?_)
    refine lv_aload_n hx hb dX5_citizen_37 rfl (lv_at hl 0 rfl) ?_
    refine lv_aload_n hx hb dX5_citizen_38 rfl (lv_at hl 0 rfl) ?_
    refine mo_get hx hb hts hown hw hM 0 (by decide) q2554 rfl (v := .ref (ma 0)) rfl dX5_citizen_39 ?_
    refine lv_iconst (v := 5) hx hb dX5_citizen_42 (by decide) ?_
    refine mo_ald hx hb hw hM 0 rfl (j := 5) rfl (show 5 < 137 by omega) dX5_citizen_43 ?_
    refine lv_tope (y := ((m_beg σ).2 0 5) + 1) (mo_sa_eq) ?_
    refine lv_iconst (v := 1) hx hb dX5_citizen_44 (by decide) ?_
    refine lv_isub hx hb dX5_citizen_45 ?_
    have hm8 : m_ref (m_beg σ) (mo_sa (mo_st (mo_st (m_beg σ) 16 1) 17 6) 0 5 (((m_beg σ).2 0 5) + 1)) 1 6 := (hm9.sa _ _)
    refine mo_calli (va_runV (As := [.int ((((m_beg σ).2 0 5) + 1) - 1)]) (rest := []) ⟨hx, hb, hml, hown, hts⟩ (met_X5_ends_ref l G hM ((((m_beg σ).2 0 5) + 1) - 1) (fun z => hm8.2.1 (hm8.1.symm.trans z))) (cwV 1 hts (lw_V q2677 q2679 qs50 q106 q2680) rfl rfl rfl (by decide +kernel) ⟨Nat.le_of_ble_eq_true rfl, Nat.le_of_ble_eq_true rfl⟩) (hv_preV hw pk_X5 hM.1) rfl rfl hl.1 rfl (lv_room (Nat.le_of_ble_eq_true rfl)) dX5_citizen_46 ⟨Nat.le_of_ble_eq_true rfl, Nat.le_of_ble_eq_true rfl⟩) hw hF (fun hh H locs hM hF hw => ?_)
    exact hret rfl hw ⟨_, by unfold i_comes; rw [if_pos (show σ.2 0 5 = 6 from hP24)]; exact pub_ref hm8, hM, hF⟩ (Nat.le_of_ble_eq_true rfl) (Nat.le_of_ble_eq_true rfl) dX5_citizen_49
  · skip
    rw [mo_hin_f hP24] at hM
    refine lv_aload_n hx hb dX5_citizen_27 rfl (lv_at hl 0 rfl) ?_
    refine mo_get hx hb hts hown hw hM 0 (by decide) q2554 rfl (v := .ref (ma 0)) rfl dX5_citizen_28 ?_
    refine lv_iconst (v := 5) hx hb dX5_citizen_31 (by decide) ?_
    refine lv_dup2_11 hx hb dX5_citizen_32 rfl rfl ?_
    refine mo_ald hx hb hw hM 0 rfl (j := 5) rfl (show 5 < 137 by omega) dX5_citizen_33 ?_
    refine lv_iconst (v := 1) hx hb dX5_citizen_34 (by decide) ?_
    refine lv_iadd hx hb dX5_citizen_35 ?_
    refine mo_ast hx hb hw hM hF 0 rfl (j := 5) rfl (show 5 < 137 by omega) dX5_citizen_36 (fun hh H locs hM hF hw => ?_)
    refine lv_aload_n hx hb dX5_citizen_37 rfl (lv_at hl 0 rfl) ?_
    refine lv_aload_n hx hb dX5_citizen_38 rfl (lv_at hl 0 rfl) ?_
    refine mo_get hx hb hts hown hw hM 0 (by decide) q2554 rfl (v := .ref (ma 0)) rfl dX5_citizen_39 ?_
    refine lv_iconst (v := 5) hx hb dX5_citizen_42 (by decide) ?_
    refine mo_ald hx hb hw hM 0 rfl (j := 5) rfl (show 5 < 137 by omega) dX5_citizen_43 ?_
    refine lv_tope (y := ((m_beg σ).2 0 5) + 1) (mo_sa_eq) ?_
    refine lv_iconst (v := 1) hx hb dX5_citizen_44 (by decide) ?_
    refine lv_isub hx hb dX5_citizen_45 ?_
    have hM : isMod G hh o ma (mo_na (m_beg σ) (upd (σ.2 0) 5 (σ.2 0 5 + 1))) := by have h9 := hM; simp only [mo_sa_na, mo_na_na, mo_na_2] at h9; exact h9
    refine mo_calli (va_runV (As := [.int ((((m_beg σ).2 0 5) + 1) - 1)]) (rest := []) ⟨hx, hb, hml, hown, hts⟩ (met_X5_ends_ok l G hM ((((m_beg σ).2 0 5) + 1) - 1) (rfl) (h5)) (cwV 1 hts (lw_V q2677 q2679 qs50 q106 q2680) rfl rfl rfl (by decide +kernel) ⟨Nat.le_of_ble_eq_true rfl, Nat.le_of_ble_eq_true rfl⟩) (hv_preV hw pk_X5 hM.1) rfl rfl hl.1 rfl (lv_room (Nat.le_of_ble_eq_true rfl)) dX5_citizen_46 ⟨Nat.le_of_ble_eq_true rfl, Nat.le_of_ble_eq_true rfl⟩) hw hF (fun hh H locs hM hF hw => ?_)
    exact hret rfl hw ⟨_, by unfold i_comes; rw [if_neg (show ¬ (σ.2 0 5 = 6) from hP24)]; exact pub_ok h5, hM, hF⟩ (Nat.le_of_ble_eq_true rfl) (Nat.le_of_ble_eq_true rfl) dX5_citizen_49
