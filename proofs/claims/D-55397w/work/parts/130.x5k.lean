set_option maxRecDepth 100000
set_option maxHeartbeats 400000 in
theorem met_X5_bracketAt (l : Launch) (G : hG) {h : hp} {o : Nat} {ma : Nat → Nat} {σ : MS} (hM : isMod G h o ma σ) (x : Int32) (hok : okI (σ.2 0)) : mo_Mi l G yX5_bracketAt (ws_ yX5_bracketAt cX5_bracketAt 4 (Option.some Jvm.ClassFile.FieldType.int)) ({ frames := 1, cells := 0, slots := 0, locals := 22 } : Room) [.ref o, .int x] h o ma (if 1 ≤ x ∧ x ≤ 9999 then nI (o_fnd (σ.2 0) x (o_many (σ.2 0))) else 0) (mo_st σ 15 (b01 (¬ (1 ≤ x ∧ x ≤ 9999)))) := by
  refine hv_bi .int (Or.inl rfl) (own := RX5) (by decide +kernel) rfl (Nat.le_of_ble_eq_true rfl) (fun p e s m a below meth c ls Q hx hb hml hown hts hnm hret hw hl => ?_)
  have hl : lv_has ls 4 [(0, .ref o), (1, .int x)] := hl
  have hF : mo_fr o ma h h := mo_fr.rf
  have hmx : o_many (σ.2 0) ≤ 5 := hok.2.2.1
  have hpx : o_people (σ.2 0) ≤ 6 := hok.2.2.2.2.1
  have hq1 := hok.1
  refine lv_aload_n hx hb dX5_bracketAt_0 rfl (lv_at hl 0 rfl) ?_
  refine lv_iload_n hx hb dX5_bracketAt_1 rfl (lv_at hl 1 rfl) ?_
  refine lv_iconst (v := 1) hx hb dX5_bracketAt_2 (by decide) ?_
  refine lv_sipush (v := 9999) hx hb dX5_bracketAt_3 (by decide) ?_
  refine hv_callir (va_runS (As := [.int x, .int 1, .int 9999]) (rest := [.ref o]) ⟨hx, hb, hml, hown, hts⟩ (met_X5_isIn l G x 1 9999 ) (va_cwS 3 hts (lw_S q2666 q2667 q106 q2668) rfl rfl rfl (by decide +kernel) ⟨Nat.le_of_ble_eq_true rfl, Nat.le_of_ble_eq_true rfl⟩) (hv_preS hw) rfl rfl hl.1 rfl (lv_room (Nat.le_of_ble_eq_true rfl)) dX5_bracketAt_6 ⟨Nat.le_of_ble_eq_true rfl, Nat.le_of_ble_eq_true rfl⟩) hw (fun H locs hw => ?_)
  refine lv_mat1 (P := (b01 (1 ≤ x ∧ x ≤ 9999)) = 0) (j := 17) (fun k1 k2 => lv_if_eq (tgt := 16) hx hb dX5_bracketAt_9 (by decide) (fun c => lv_iconst (v := 1) hx hb dX5_bracketAt_16 (by decide) (k1 c)) (fun c => lv_iconst (v := 0) hx hb dX5_bracketAt_12 (by decide) (lv_goto (tgt := 17) hx hb dX5_bracketAt_13 (by decide) (k2 c)))) ?_
  refine lv_tope (y := b01 (¬ (1 ≤ x ∧ x ≤ 9999))) (b01_c b01_0) ?_
  refine mo_put hx hb hts hown hw hM hF 15 (by decide) rfl q2569 rfl rfl rfl rfl dX5_bracketAt_17 (fun hh H locs hM hF hw => ?_)
  refine lv_iconst (v := 0) hx hb dX5_bracketAt_20 (by decide) ?_
  refine lv_istore_n (lv' := [(2, .int 0), (0, .ref o), (1, .int x)]) hx hb dX5_bracketAt_21 rfl hl (by decide) rfl (fun ls hl => ?_)
  refine lv_iconst (v := 0) hx hb dX5_bracketAt_22 (by decide) ?_
  refine lv_istore_n (lv' := [(3, .int 0), (2, .int 0), (0, .ref o), (1, .int x)]) hx hb dX5_bracketAt_23 rfl hl (by decide) rfl (fun ls hl => ?_)
  have LP24 : ∀ (n24 : Nat) (k : Nat) (hh : hp) (H : Heap) (locs : List Loc) (ls : Array Slot), o_many (σ.2 0) - k < n24 → k ≤ o_many (σ.2 0) → isMod G hh o ma (mo_st σ 15 (b01 (¬ (1 ≤ x ∧ x ≤ 9999)))) → mo_fr o ma h hh → hv_W G s hh H locs → lv_has ls 4 [(3, .int (nI k)), (2, .int (nI (o_fnd (σ.2 0) x k))), (0, .ref o), (1, .int x)] → W p l e ({ frames := 1, cells := 0, slots := 0, locals := 22 } : Room) s m a below meth c H locs 0 0 Q (F0 m 24 ls []) := by
    intro n24
    induction n24 with
    | zero => exact fun k hh H locs ls hmu24 => absurd hmu24 (Nat.not_lt_zero _)
    | succ n24 ih24 =>
      intro k hh H locs ls hmu24 hkk hM hF hw hl
      refine lv_iload_n hx hb dX5_bracketAt_24 rfl (lv_at hl 0 rfl) ?_
      refine lv_aload_n hx hb dX5_bracketAt_25 rfl (lv_at hl 2 rfl) ?_
      refine mo_get hx hb hts hown hw hM 0 (by decide) q2554 rfl (v := .ref (ma 0)) rfl dX5_bracketAt_26 ?_
      refine lv_iconst (v := 1) hx hb dX5_bracketAt_29 (by decide) ?_
      refine mo_ald hx hb hw hM 0 rfl (j := 1) rfl (show 1 < 137 by omega) dX5_bracketAt_30 ?_
      refine lv_icmp_ge (tgt := 55) hx hb dX5_bracketAt_31 (by decide) (fun c31 => ?_) (fun c31 => ?_)
      · skip
        have hxk : o_many (σ.2 0) ≤ k := cmp_le c31 hq1 rfl (by omega) (by omega)
        obtain rfl : k = o_many (σ.2 0) := by omega
        refine lv_aload_n hx hb dX5_bracketAt_55 rfl (lv_at hl 2 rfl) ?_
        refine mo_get hx hb hts hown hw hM 15 (by decide) q2569 rfl (v := .int (b01 (¬ (1 ≤ x ∧ x ≤ 9999)))) rfl dX5_bracketAt_56 ?_
        refine lv_if_ne (tgt := 66) hx hb dX5_bracketAt_59 (by decide) (fun c59 => ?_) (fun c59 => ?_)
        · skip
          have c59 : ¬ (1 ≤ x ∧ x ≤ 9999) := b01_n.mp c59
          refine lv_iconst (v := 0) hx hb dX5_bracketAt_66 (by decide) ?_
          exact hret rfl hw ⟨(if_neg c59).symm, hM, hF⟩ (Nat.le_of_ble_eq_true rfl) (Nat.le_of_ble_eq_true rfl) dX5_bracketAt_67
        · skip
          have c59 : ¬ (¬ (1 ≤ x ∧ x ≤ 9999)) := b01_0.mp c59
          refine lv_iload_n hx hb dX5_bracketAt_62 rfl (lv_at hl 1 rfl) ?_
          refine lv_goto (tgt := 67) hx hb dX5_bracketAt_63 (by decide) ?_
          exact hret rfl hw ⟨(if_pos (Decidable.not_not.mp c59)).symm, hM, hF⟩ (Nat.le_of_ble_eq_true rfl) (Nat.le_of_ble_eq_true rfl) dX5_bracketAt_67
      · skip
        have hxk : k < o_many (σ.2 0) := cmp_nle c31 hq1 rfl (by omega) (by omega)
        refine lv_aload_n hx hb dX5_bracketAt_34 rfl (lv_at hl 2 rfl) ?_
        refine lv_iload_n hx hb dX5_bracketAt_35 rfl (lv_at hl 0 rfl) ?_
        refine hv_callir (va_runV (As := [.int (nI k)]) (rest := []) ⟨hx, hb, hml, hown, hts⟩ (met_X5_edge l G hM k (show 13 + 2 * k < 137 by omega)) (cwV 1 hts (lw_V q2673 q2675 qs49 q106 q2676) rfl rfl rfl (by decide +kernel) ⟨Nat.le_of_ble_eq_true rfl, Nat.le_of_ble_eq_true rfl⟩) (hv_preV hw pk_X5 hM.1) rfl rfl hl.1 rfl (lv_room (Nat.le_of_ble_eq_true rfl)) dX5_bracketAt_36 ⟨Nat.le_of_ble_eq_true rfl, Nat.le_of_ble_eq_true rfl⟩) hw (fun H locs hw => ?_)
        refine lv_iload_n hx hb dX5_bracketAt_39 rfl (lv_at hl 3 rfl) ?_
        refine lv_icmp_ge (tgt := 47) hx hb dX5_bracketAt_40 (by decide) (fun c40 => ?_) (fun c40 => ?_)
        · skip
          have ex9 : o_fnd (σ.2 0) x (k + 1) = o_fnd (σ.2 0) x k := if_neg (Int32.not_lt.mpr c40)
          refine lv_iload_n hx hb dX5_bracketAt_47 rfl (lv_at hl 1 rfl) ?_
          refine lv_tope (y := nI (o_fnd (σ.2 0) x (k + 1))) (congrArg nI ex9.symm) ?_
          refine lv_istore_n (lv' := [(2, .int (nI (o_fnd (σ.2 0) x (k + 1)))), (3, .int (nI k)), (0, .ref o), (1, .int x)]) hx hb dX5_bracketAt_48 rfl hl (by decide) rfl (fun ls hl => ?_)
          refine lv_iinc (v := nI (k + 1)) (lv' := [(3, .int (nI (k + 1))), (2, .int (nI (o_fnd (σ.2 0) x (k + 1)))), (0, .ref o), (1, .int x)]) hx hb dX5_bracketAt_49 hl (k := 1) rfl (by simp only [nI, Int32.ofNat_add] <;> rfl) (by decide) rfl (fun ls hl => ?_)
          refine lv_goto (tgt := 24) hx hb dX5_bracketAt_52 (by decide) ?_
          exact ih24 (k + 1) _ _ _ _ (by omega) (by omega) hM hF hw (lv_sub hl [0, 1, 2, 3] rfl)
        · skip
          have ex9 : o_fnd (σ.2 0) x (k + 1) = k := if_pos (Int32.not_le.mp c40)
          refine lv_iload_n hx hb dX5_bracketAt_43 rfl (lv_at hl 0 rfl) ?_
          refine lv_goto (tgt := 48) hx hb dX5_bracketAt_44 (by decide) ?_
          refine lv_tope (y := nI (o_fnd (σ.2 0) x (k + 1))) (congrArg nI ex9.symm) ?_
          refine lv_istore_n (lv' := [(2, .int (nI (o_fnd (σ.2 0) x (k + 1)))), (3, .int (nI k)), (0, .ref o), (1, .int x)]) hx hb dX5_bracketAt_48 rfl hl (by decide) rfl (fun ls hl => ?_)
          refine lv_iinc (v := nI (k + 1)) (lv' := [(3, .int (nI (k + 1))), (2, .int (nI (o_fnd (σ.2 0) x (k + 1)))), (0, .ref o), (1, .int x)]) hx hb dX5_bracketAt_49 hl (k := 1) rfl (by simp only [nI, Int32.ofNat_add] <;> rfl) (by decide) rfl (fun ls hl => ?_)
          refine lv_goto (tgt := 24) hx hb dX5_bracketAt_52 (by decide) ?_
          exact ih24 (k + 1) _ _ _ _ (by omega) (by omega) hM hF hw (lv_sub hl [0, 1, 2, 3] rfl)
  exact LP24 _ 0 _ _ _ _ (Nat.lt_succ_self _) (by omega) hM hF hw (lv_sub hl [0, 1, 2, 3] rfl)
set_option maxHeartbeats 400000 in
theorem met_X5_creditFor (l : Launch) (G : hG) {h : hp} {o : Nat} {ma : Nat → Nat} {σ : MS} (hM : isMod G h o ma σ) (x : Int32) : mo_Mi l G yX5_creditFor (ws_ yX5_creditFor cX5_creditFor 2 (Option.some Jvm.ClassFile.FieldType.int)) ({ frames := 2, cells := 0, slots := 0, locals := 43 } : Room) [.ref o, .int x] h o ma (if 0 ≤ x ∧ x ≤ 9999 then o_left (σ.2 0) x else 0) (mo_st σ 15 (b01 (¬ (0 ≤ x ∧ x ≤ 9999)))) := by
  refine hv_bi .int (Or.inl rfl) (own := RX5) (by decide +kernel) rfl (Nat.le_of_ble_eq_true rfl) (fun p e s m a below meth c ls Q hx hb hml hown hts hnm hret hw hl => ?_)
  have hl : lv_has ls 2 [(0, .ref o), (1, .int x)] := hl
  have hF : mo_fr o ma h h := mo_fr.rf
  refine lv_aload_n hx hb dX5_creditFor_0 rfl (lv_at hl 0 rfl) ?_
  refine lv_aload_n hx hb dX5_creditFor_1 rfl (lv_at hl 0 rfl) ?_
  refine lv_iload_n hx hb dX5_creditFor_2 rfl (lv_at hl 1 rfl) ?_
  refine hv_callir (va_runV (As := [.int x]) (rest := [.ref o]) ⟨hx, hb, hml, hown, hts⟩ (met_X5_isIncome l G hM x ) (cwV 1 hts (lw_V q2853 q2855 qs77 q106 q2856) rfl rfl rfl (by decide +kernel) ⟨Nat.le_of_ble_eq_true rfl, Nat.le_of_ble_eq_true rfl⟩) (hv_preV hw pk_X5 hM.1) rfl rfl hl.1 rfl (lv_room (Nat.le_of_ble_eq_true rfl)) dX5_creditFor_3 ⟨Nat.le_of_ble_eq_true rfl, Nat.le_of_ble_eq_true rfl⟩) hw (fun H locs hw => ?_)
  refine lv_mat1 (P := (b01 (0 ≤ x ∧ x ≤ 9999)) = 0) (j := 14) (fun k1 k2 => lv_if_eq (tgt := 13) hx hb dX5_creditFor_6 (by decide) (fun c => lv_iconst (v := 1) hx hb dX5_creditFor_13 (by decide) (k1 c)) (fun c => lv_iconst (v := 0) hx hb dX5_creditFor_9 (by decide) (lv_goto (tgt := 14) hx hb dX5_creditFor_10 (by decide) (k2 c)))) ?_
  refine lv_tope (y := b01 (¬ (0 ≤ x ∧ x ≤ 9999))) (b01_c b01_0) ?_
  refine mo_put hx hb hts hown hw hM hF 15 (by decide) rfl q2569 rfl rfl rfl rfl dX5_creditFor_14 (fun hh H locs hM hF hw => ?_)
  refine lv_aload_n hx hb dX5_creditFor_17 rfl (lv_at hl 0 rfl) ?_
  refine mo_get hx hb hts hown hw hM 15 (by decide) q2569 rfl (v := .int (b01 (¬ (0 ≤ x ∧ x ≤ 9999)))) rfl dX5_creditFor_18 ?_
  refine lv_if_ne (tgt := 32) hx hb dX5_creditFor_21 (by decide) (fun c21 => ?_) (fun c21 => ?_)
  · skip
    have c21 : ¬ (0 ≤ x ∧ x ≤ 9999) := b01_n.mp c21
    refine lv_iconst (v := 0) hx hb dX5_creditFor_32 (by decide) ?_
    exact hret rfl hw ⟨(if_neg c21).symm, hM, hF⟩ (Nat.le_of_ble_eq_true rfl) (Nat.le_of_ble_eq_true rfl) dX5_creditFor_33
  · skip
    have c21 : ¬ (¬ (0 ≤ x ∧ x ≤ 9999)) := b01_0.mp c21
    refine lv_aload_n hx hb dX5_creditFor_24 rfl (lv_at hl 0 rfl) ?_
    refine lv_iload_n hx hb dX5_creditFor_25 rfl (lv_at hl 1 rfl) ?_
    refine hv_callir (va_runV (As := [.int x]) (rest := []) ⟨hx, hb, hml, hown, hts⟩ (met_X5_leftOfCredit l G hM x ) (cwV 1 hts (lw_V q2805 q2807 qs71 q106 q2808) rfl rfl rfl (by decide +kernel) ⟨Nat.le_of_ble_eq_true rfl, Nat.le_of_ble_eq_true rfl⟩) (hv_preV hw pk_X5 hM.1) rfl rfl hl.1 rfl (lv_room (Nat.le_of_ble_eq_true rfl)) dX5_creditFor_26 ⟨Nat.le_of_ble_eq_true rfl, Nat.le_of_ble_eq_true rfl⟩) hw (fun H locs hw => ?_)
    refine lv_goto (tgt := 33) hx hb dX5_creditFor_29 (by decide) ?_
    exact hret rfl hw ⟨(if_pos (Decidable.not_not.mp c21)).symm, hM, hF⟩ (Nat.le_of_ble_eq_true rfl) (Nat.le_of_ble_eq_true rfl) dX5_creditFor_33
set_option maxHeartbeats 400000 in
theorem met_X5_isAhead (l : Launch) (G : hG) {h : hp} {o : Nat} {ma : Nat → Nat} {σ : MS} (hM : isMod G h o ma σ) (x9 : Nat) (y9 : Nat) (hy1 : x9 < 6) (hy2 : y9 < 6) : mo_Ri l G yX5_isAhead (ws_ yX5_isAhead cX5_isAhead 5 (Option.some Jvm.ClassFile.FieldType.boolean)) ({ frames := 1, cells := 0, slots := 0, locals := 22 } : Room) [.ref o, .int (nI x9), .int (nI y9)] h (o_ahd (σ.2 0) x9 y9) := by
  refine hv_bi .boolean (Or.inr (Or.inl rfl)) (own := RX5) (by decide +kernel) rfl (Nat.le_of_ble_eq_true rfl) (fun p e s m a below meth c ls Q hx hb hml hown hts hnm hret hw hl => ?_)
  have hl : lv_has ls 5 [(0, .ref o), (1, .int (nI x9)), (2, .int (nI y9))] := hl
  refine lv_aload_n hx hb dX5_isAhead_0 rfl (lv_at hl 0 rfl) ?_
  refine lv_iload_n hx hb dX5_isAhead_1 rfl (lv_at hl 1 rfl) ?_
  refine lv_iconst (v := 1) hx hb dX5_isAhead_2 (by decide) ?_
  refine hv_callir (va_runV (As := [.int (nI x9), .int 1]) (rest := []) ⟨hx, hb, hml, hown, hts⟩ (met_X5_of l G hM x9 1 (show 23 + 19 * x9 + 1 < 137 by omega)) (cwV 2 hts (lw_V q2740 q2742 qs59 q106 q2743) rfl rfl rfl (by decide +kernel) ⟨Nat.le_of_ble_eq_true rfl, Nat.le_of_ble_eq_true rfl⟩) (hv_preV hw pk_X5 hM.1) rfl rfl hl.1 rfl (lv_room (Nat.le_of_ble_eq_true rfl)) dX5_isAhead_3 ⟨Nat.le_of_ble_eq_true rfl, Nat.le_of_ble_eq_true rfl⟩) hw (fun H locs hw => ?_)
  refine lv_aload_n hx hb dX5_isAhead_6 rfl (lv_at hl 0 rfl) ?_
  refine lv_iload_n hx hb dX5_isAhead_7 rfl (lv_at hl 1 rfl) ?_
  refine lv_iconst (v := 2) hx hb dX5_isAhead_8 (by decide) ?_
  refine hv_callir (va_runV (As := [.int (nI x9), .int 2]) (rest := [.int (σ.2 0 (23 + 19 * x9 + 1))]) ⟨hx, hb, hml, hown, hts⟩ (met_X5_of l G hM x9 2 (show 23 + 19 * x9 + 2 < 137 by omega)) (cwV 2 hts (lw_V q2740 q2742 qs59 q106 q2743) rfl rfl rfl (by decide +kernel) ⟨Nat.le_of_ble_eq_true rfl, Nat.le_of_ble_eq_true rfl⟩) (hv_preV hw pk_X5 hM.1) rfl rfl hl.1 rfl (lv_room (Nat.le_of_ble_eq_true rfl)) dX5_isAhead_9 ⟨Nat.le_of_ble_eq_true rfl, Nat.le_of_ble_eq_true rfl⟩) hw (fun H locs hw => ?_)
  refine lv_isub hx hb dX5_isAhead_12 ?_
  refine lv_aload_n hx hb dX5_isAhead_13 rfl (lv_at hl 0 rfl) ?_
  refine lv_iload_n hx hb dX5_isAhead_14 rfl (lv_at hl 2 rfl) ?_
  refine lv_iconst (v := 1) hx hb dX5_isAhead_15 (by decide) ?_
  refine hv_callir (va_runV (As := [.int (nI y9), .int 1]) (rest := [.int ((σ.2 0 (23 + 19 * x9 + 1)) - (σ.2 0 (23 + 19 * x9 + 2)))]) ⟨hx, hb, hml, hown, hts⟩ (met_X5_of l G hM y9 1 (show 23 + 19 * y9 + 1 < 137 by omega)) (cwV 2 hts (lw_V q2740 q2742 qs59 q106 q2743) rfl rfl rfl (by decide +kernel) ⟨Nat.le_of_ble_eq_true rfl, Nat.le_of_ble_eq_true rfl⟩) (hv_preV hw pk_X5 hM.1) rfl rfl hl.1 rfl (lv_room (Nat.le_of_ble_eq_true rfl)) dX5_isAhead_16 ⟨Nat.le_of_ble_eq_true rfl, Nat.le_of_ble_eq_true rfl⟩) hw (fun H locs hw => ?_)
  refine lv_isub hx hb dX5_isAhead_19 ?_
  refine lv_aload_n hx hb dX5_isAhead_20 rfl (lv_at hl 0 rfl) ?_
  refine lv_iload_n hx hb dX5_isAhead_21 rfl (lv_at hl 2 rfl) ?_
  refine lv_iconst (v := 2) hx hb dX5_isAhead_22 (by decide) ?_
  refine hv_callir (va_runV (As := [.int (nI y9), .int 2]) (rest := [.int (((σ.2 0 (23 + 19 * x9 + 1)) - (σ.2 0 (23 + 19 * x9 + 2))) - (σ.2 0 (23 + 19 * y9 + 1)))]) ⟨hx, hb, hml, hown, hts⟩ (met_X5_of l G hM y9 2 (show 23 + 19 * y9 + 2 < 137 by omega)) (cwV 2 hts (lw_V q2740 q2742 qs59 q106 q2743) rfl rfl rfl (by decide +kernel) ⟨Nat.le_of_ble_eq_true rfl, Nat.le_of_ble_eq_true rfl⟩) (hv_preV hw pk_X5 hM.1) rfl rfl hl.1 rfl (lv_room (Nat.le_of_ble_eq_true rfl)) dX5_isAhead_23 ⟨Nat.le_of_ble_eq_true rfl, Nat.le_of_ble_eq_true rfl⟩) hw (fun H locs hw => ?_)
  refine lv_iadd hx hb dX5_isAhead_26 ?_
  refine lv_tope (y := o_more (σ.2 0) x9 y9) rfl ?_
  refine lv_istore_n (lv' := [(3, .int (o_more (σ.2 0) x9 y9)), (0, .ref o), (1, .int (nI x9)), (2, .int (nI y9))]) hx hb dX5_isAhead_27 rfl hl (by decide) rfl (fun ls hl => ?_)
  refine lv_aload_n hx hb dX5_isAhead_28 rfl (lv_at hl 1 rfl) ?_
  refine lv_iload_n hx hb dX5_isAhead_29 rfl (lv_at hl 2 rfl) ?_
  refine lv_iconst (v := 0) hx hb dX5_isAhead_30 (by decide) ?_
  refine hv_callir (va_runV (As := [.int (nI x9), .int 0]) (rest := []) ⟨hx, hb, hml, hown, hts⟩ (met_X5_of l G hM x9 0 (show 23 + 19 * x9 + 0 < 137 by omega)) (cwV 2 hts (lw_V q2740 q2742 qs59 q106 q2743) rfl rfl rfl (by decide +kernel) ⟨Nat.le_of_ble_eq_true rfl, Nat.le_of_ble_eq_true rfl⟩) (hv_preV hw pk_X5 hM.1) rfl rfl hl.1 rfl (lv_room (Nat.le_of_ble_eq_true rfl)) dX5_isAhead_31 ⟨Nat.le_of_ble_eq_true rfl, Nat.le_of_ble_eq_true rfl⟩) hw (fun H locs hw => ?_)
  refine lv_aload_n hx hb dX5_isAhead_34 rfl (lv_at hl 1 rfl) ?_
  refine lv_iload_n hx hb dX5_isAhead_35 rfl (lv_at hl 3 rfl) ?_
  refine lv_iconst (v := 0) hx hb dX5_isAhead_36 (by decide) ?_
  refine hv_callir (va_runV (As := [.int (nI y9), .int 0]) (rest := [.int (σ.2 0 (23 + 19 * x9 + 0))]) ⟨hx, hb, hml, hown, hts⟩ (met_X5_of l G hM y9 0 (show 23 + 19 * y9 + 0 < 137 by omega)) (cwV 2 hts (lw_V q2740 q2742 qs59 q106 q2743) rfl rfl rfl (by decide +kernel) ⟨Nat.le_of_ble_eq_true rfl, Nat.le_of_ble_eq_true rfl⟩) (hv_preV hw pk_X5 hM.1) rfl rfl hl.1 rfl (lv_room (Nat.le_of_ble_eq_true rfl)) dX5_isAhead_37 ⟨Nat.le_of_ble_eq_true rfl, Nat.le_of_ble_eq_true rfl⟩) hw (fun H locs hw => ?_)
  refine lv_isub hx hb dX5_isAhead_40 ?_
  refine lv_tope (y := o_inc (σ.2 0) x9 y9) rfl ?_
  refine lv_istore (lv' := [(4, .int (o_inc (σ.2 0) x9 y9)), (3, .int (o_more (σ.2 0) x9 y9)), (0, .ref o), (1, .int (nI x9)), (2, .int (nI y9))]) hx hb dX5_isAhead_41 hl (by decide) rfl (fun ls hl => ?_)
  refine lv_iload_n hx hb dX5_isAhead_43 rfl (lv_at hl 1 rfl) ?_
  refine lv_if_eq (tgt := 59) hx hb dX5_isAhead_44 (by decide) (fun c44 => ?_) (fun c44 => ?_)
  · skip
    refine lv_iload hx hb dX5_isAhead_59 (lv_at hl 0 rfl) ?_
    refine lv_if_eq (tgt := 77) hx hb dX5_isAhead_61 (by decide) (fun c61 => ?_) (fun c61 => ?_)
    · skip
      refine lv_iload_n hx hb dX5_isAhead_77 rfl (lv_at hl 3 rfl) ?_
      refine lv_iload_n hx hb dX5_isAhead_78 rfl (lv_at hl 4 rfl) ?_
      refine lv_mat0 (P := (nI y9) ≤ (nI x9)) (j := 87) (fun k1 k2 => lv_icmp_ge (tgt := 86) hx hb dX5_isAhead_79 (by decide) (fun c => lv_iconst (v := 0) hx hb dX5_isAhead_86 (by decide) (k1 c)) (fun c => lv_iconst (v := 1) hx hb dX5_isAhead_82 (by decide) (lv_goto (tgt := 87) hx hb dX5_isAhead_83 (by decide) (k2 c)))) ?_
      exact hret (b01_z _) hw ⟨by unfold o_ahd; rw [if_pos c44, if_pos c61]; exact b01_c Int32.not_le, rfl⟩ (Nat.le_of_ble_eq_true rfl) (Nat.le_of_ble_eq_true rfl) dX5_isAhead_87
    · skip
      refine lv_iload hx hb dX5_isAhead_64 (lv_at hl 0 rfl) ?_
      refine lv_if_le (tgt := 73) hx hb dX5_isAhead_66 (by decide) (fun c66 => ?_) (fun c66 => ?_)
      · skip
        refine lv_iconst (v := 0) hx hb dX5_isAhead_73 (by decide) ?_
        refine lv_goto (tgt := 87) hx hb dX5_isAhead_74 (by decide) ?_
        exact hret rfl hw ⟨by unfold o_ahd; rw [if_pos c44, if_neg c61]; exact (if_neg (Int32.not_lt.mpr c66)).symm, rfl⟩ (Nat.le_of_ble_eq_true rfl) (Nat.le_of_ble_eq_true rfl) dX5_isAhead_87
      · skip
        refine lv_iconst (v := 1) hx hb dX5_isAhead_69 (by decide) ?_
        refine lv_goto (tgt := 87) hx hb dX5_isAhead_70 (by decide) ?_
        exact hret rfl hw ⟨by unfold o_ahd; rw [if_pos c44, if_neg c61]; exact (if_pos (Int32.not_le.mp c66)).symm, rfl⟩ (Nat.le_of_ble_eq_true rfl) (Nat.le_of_ble_eq_true rfl) dX5_isAhead_87
  · skip
    refine lv_iload_n hx hb dX5_isAhead_47 rfl (lv_at hl 1 rfl) ?_
    refine lv_if_le (tgt := 55) hx hb dX5_isAhead_48 (by decide) (fun c48 => ?_) (fun c48 => ?_)
    · skip
      refine lv_iconst (v := 0) hx hb dX5_isAhead_55 (by decide) ?_
      refine lv_goto (tgt := 87) hx hb dX5_isAhead_56 (by decide) ?_
      exact hret rfl hw ⟨by unfold o_ahd; rw [if_neg c44]; exact (if_neg (Int32.not_lt.mpr c48)).symm, rfl⟩ (Nat.le_of_ble_eq_true rfl) (Nat.le_of_ble_eq_true rfl) dX5_isAhead_87
    · skip
      refine lv_iconst (v := 1) hx hb dX5_isAhead_51 (by decide) ?_
      refine lv_goto (tgt := 87) hx hb dX5_isAhead_52 (by decide) ?_
      exact hret rfl hw ⟨by unfold o_ahd; rw [if_neg c44]; exact (if_pos (Int32.not_le.mp c48)).symm, rfl⟩ (Nat.le_of_ble_eq_true rfl) (Nat.le_of_ble_eq_true rfl) dX5_isAhead_87
set_option maxHeartbeats 400000 in
theorem met_X5_sumOf (l : Launch) (G : hG) {h : hp} {o : Nat} {ma : Nat → Nat} {σ : MS} (hM : isMod G h o ma σ) (w9 : Nat) (hok : okI (σ.2 0)) (hy1 : w9 < 19) : mo_Ri l G yX5_sumOf (ws_ yX5_sumOf cX5_sumOf 4 (Option.some Jvm.ClassFile.FieldType.int)) ({ frames := 2, cells := 0, slots := 0, locals := 45 } : Room) [.ref o, .int (nI w9)] h (o_sum (σ.2 0) w9 (o_people (σ.2 0))) := by
  refine hv_bi .int (Or.inl rfl) (own := RX5) (by decide +kernel) rfl (Nat.le_of_ble_eq_true rfl) (fun p e s m a below meth c ls Q hx hb hml hown hts hnm hret hw hl => ?_)
  have hl : lv_has ls 4 [(0, .ref o), (1, .int (nI w9))] := hl
  have hmx : o_many (σ.2 0) ≤ 5 := hok.2.2.1
  have hpx : o_people (σ.2 0) ≤ 6 := hok.2.2.2.2.1
  have hn5 := hok.2.2.2.1
  refine lv_iconst (v := 0) hx hb dX5_sumOf_0 (by decide) ?_
  refine lv_istore_n (lv' := [(2, .int 0), (0, .ref o), (1, .int (nI w9))]) hx hb dX5_sumOf_1 rfl hl (by decide) rfl (fun ls hl => ?_)
  refine lv_iconst (v := 0) hx hb dX5_sumOf_2 (by decide) ?_
  refine lv_istore_n (lv' := [(3, .int 0), (2, .int 0), (0, .ref o), (1, .int (nI w9))]) hx hb dX5_sumOf_3 rfl hl (by decide) rfl (fun ls hl => ?_)
  have LP4 : ∀ (n4 : Nat) (k : Nat) (H : Heap) (locs : List Loc) (ls : Array Slot), o_people (σ.2 0) - k < n4 → k ≤ o_people (σ.2 0) → hv_W G s h H locs → lv_has ls 4 [(3, .int (nI k)), (2, .int (o_sum (σ.2 0) w9 k)), (0, .ref o), (1, .int (nI w9))] → W p l e ({ frames := 2, cells := 0, slots := 0, locals := 45 } : Room) s m a below meth c H locs 0 0 Q (F0 m 4 ls []) := by
    intro n4
    induction n4 with
    | zero => exact fun k H locs ls hmu4 => absurd hmu4 (Nat.not_lt_zero _)
    | succ n4 ih4 =>
      intro k H locs ls hmu4 hkk hw hl
      refine lv_iload_n hx hb dX5_sumOf_4 rfl (lv_at hl 0 rfl) ?_
      refine lv_aload_n hx hb dX5_sumOf_5 rfl (lv_at hl 2 rfl) ?_
      refine mo_get hx hb hts hown hw hM 0 (by decide) q2554 rfl (v := .ref (ma 0)) rfl dX5_sumOf_6 ?_
      refine lv_iconst (v := 5) hx hb dX5_sumOf_9 (by decide) ?_
      refine mo_ald hx hb hw hM 0 rfl (j := 5) rfl (show 5 < 137 by omega) dX5_sumOf_10 ?_
      refine lv_icmp_ge (tgt := 43) hx hb dX5_sumOf_11 (by decide) (fun c11 => ?_) (fun c11 => ?_)
      · skip
        have hxk : o_people (σ.2 0) ≤ k := cmp_le c11 hn5 rfl (by omega) (by omega)
        obtain rfl : k = o_people (σ.2 0) := by omega
        refine lv_iload_n hx hb dX5_sumOf_43 rfl (lv_at hl 1 rfl) ?_
        exact hret rfl hw ⟨rfl, rfl⟩ (Nat.le_of_ble_eq_true rfl) (Nat.le_of_ble_eq_true rfl) dX5_sumOf_44
      · skip
        have hxk : k < o_people (σ.2 0) := cmp_nle c11 hn5 rfl (by omega) (by omega)
        refine lv_iload_n hx hb dX5_sumOf_14 rfl (lv_at hl 1 rfl) ?_
        refine lv_iload_n hx hb dX5_sumOf_15 rfl (lv_at hl 3 rfl) ?_
        refine lv_bipush (v := 6) hx hb dX5_sumOf_16 (by decide) ?_
        refine lv_icmp_ne (tgt := 29) hx hb dX5_sumOf_18 (by decide) (fun c18 => ?_) (fun c18 => ?_)
        · skip
          have ex9 : o_sum (σ.2 0) w9 (k + 1) = o_sum (σ.2 0) w9 k + σ.2 0 (23 + 19 * k + w9) := congrArg (o_sum (σ.2 0) w9 k + ·) (if_neg c18)
          refine lv_aload_n hx hb dX5_sumOf_29 rfl (lv_at hl 2 rfl) ?_
          refine lv_iload_n hx hb dX5_sumOf_30 rfl (lv_at hl 0 rfl) ?_
          refine lv_iload_n hx hb dX5_sumOf_31 rfl (lv_at hl 3 rfl) ?_
          refine hv_callir (va_runV (As := [.int (nI k), .int (nI w9)]) (rest := [.int (o_sum (σ.2 0) w9 k)]) ⟨hx, hb, hml, hown, hts⟩ (met_X5_of l G hM k w9 (show 23 + 19 * k + w9 < 137 by omega)) (cwV 2 hts (lw_V q2740 q2742 qs59 q106 q2743) rfl rfl rfl (by decide +kernel) ⟨Nat.le_of_ble_eq_true rfl, Nat.le_of_ble_eq_true rfl⟩) (hv_preV hw pk_X5 hM.1) rfl rfl hl.1 rfl (lv_room (Nat.le_of_ble_eq_true rfl)) dX5_sumOf_32 ⟨Nat.le_of_ble_eq_true rfl, Nat.le_of_ble_eq_true rfl⟩) hw (fun H locs hw => ?_)
          refine lv_iadd hx hb dX5_sumOf_35 ?_
          refine lv_tope (y := o_sum (σ.2 0) w9 (k + 1)) (ex9.symm) ?_
          refine lv_istore_n (lv' := [(2, .int (o_sum (σ.2 0) w9 (k + 1))), (3, .int (nI k)), (0, .ref o), (1, .int (nI w9))]) hx hb dX5_sumOf_36 rfl hl (by decide) rfl (fun ls hl => ?_)
          refine lv_iinc (v := nI (k + 1)) (lv' := [(3, .int (nI (k + 1))), (2, .int (o_sum (σ.2 0) w9 (k + 1))), (0, .ref o), (1, .int (nI w9))]) hx hb dX5_sumOf_37 hl (k := 1) rfl (by simp only [nI, Int32.ofNat_add] <;> rfl) (by decide) rfl (fun ls hl => ?_)
          refine lv_goto (tgt := 4) hx hb dX5_sumOf_40 (by decide) ?_
          exact ih4 (k + 1) _ _ _ (by omega) (by omega) hw (lv_sub hl [0, 1, 2, 3] rfl)
        · skip
          have ex9 : o_sum (σ.2 0) w9 (k + 1) = o_sum (σ.2 0) w9 k + o_carried (σ.2 0) k := congrArg (o_sum (σ.2 0) w9 k + ·) (if_pos c18)
          refine lv_aload_n hx hb dX5_sumOf_21 rfl (lv_at hl 2 rfl) ?_
          refine lv_iload_n hx hb dX5_sumOf_22 rfl (lv_at hl 0 rfl) ?_
          refine hv_callir (va_runV (As := [.int (nI k)]) (rest := [.int (o_sum (σ.2 0) w9 k)]) ⟨hx, hb, hml, hown, hts⟩ (met_X5_carried l G hM k (hok) (show k < o_people (σ.2 0) by omega)) (cwV 1 hts (lw_V q2837 q2839 qs76 q106 q2840) rfl rfl rfl (by decide +kernel) ⟨Nat.le_of_ble_eq_true rfl, Nat.le_of_ble_eq_true rfl⟩) (hv_preV hw pk_X5 hM.1) rfl rfl hl.1 rfl (lv_room (Nat.le_of_ble_eq_true rfl)) dX5_sumOf_23 ⟨Nat.le_of_ble_eq_true rfl, Nat.le_of_ble_eq_true rfl⟩) hw (fun H locs hw => ?_)
          refine lv_goto (tgt := 35) hx hb dX5_sumOf_26 (by decide) ?_
          refine lv_iadd hx hb dX5_sumOf_35 ?_
          refine lv_tope (y := o_sum (σ.2 0) w9 (k + 1)) (ex9.symm) ?_
          refine lv_istore_n (lv' := [(2, .int (o_sum (σ.2 0) w9 (k + 1))), (3, .int (nI k)), (0, .ref o), (1, .int (nI w9))]) hx hb dX5_sumOf_36 rfl hl (by decide) rfl (fun ls hl => ?_)
          refine lv_iinc (v := nI (k + 1)) (lv' := [(3, .int (nI (k + 1))), (2, .int (o_sum (σ.2 0) w9 (k + 1))), (0, .ref o), (1, .int (nI w9))]) hx hb dX5_sumOf_37 hl (k := 1) rfl (by simp only [nI, Int32.ofNat_add] <;> rfl) (by decide) rfl (fun ls hl => ?_)
          refine lv_goto (tgt := 4) hx hb dX5_sumOf_40 (by decide) ?_
          exact ih4 (k + 1) _ _ _ (by omega) (by omega) hw (lv_sub hl [0, 1, 2, 3] rfl)
  exact LP4 _ 0 _ _ _ (Nat.lt_succ_self _) (by omega) hw (lv_sub hl [0, 1, 2, 3] rfl)
set_option maxHeartbeats 400000 in
theorem met_X5_isNoLoss (l : Launch) (G : hG) {h : hp} {o : Nat} {ma : Nat → Nat} {σ : MS} (hM : isMod G h o ma σ) (c9 : Int32) (hok : okI (σ.2 0)) : mo_Mi l G yX5_isNoLoss (ws_ yX5_isNoLoss cX5_isNoLoss 4 (Option.some Jvm.ClassFile.FieldType.boolean)) ({ frames := 5, cells := 0, slots := 0, locals := 115 } : Room) [.ref o, .int c9] h o ma (b01 ((0 ≤ c9 ∧ c9 ≤ σ.2 0 5 - 1) ∧ o_nl (σ.2 0) (o_n c9) 9999 = true)) (mo_st σ 15 (m_gv ((0 ≤ c9 ∧ c9 ≤ σ.2 0 5 - 1)) 1 (True) 0)) := by
  refine hv_bi .boolean (Or.inr (Or.inl rfl)) (own := RX5) (by decide +kernel) rfl (Nat.le_of_ble_eq_true rfl) (fun p e s m a below meth c ls Q hx hb hml hown hts hnm hret hw hl => ?_)
  have hl : lv_has ls 4 [(0, .ref o), (1, .int c9)] := hl
  have hF : mo_fr o ma h h := mo_fr.rf
  have hmx : o_many (σ.2 0) ≤ 5 := hok.2.2.1
  have hpx : o_people (σ.2 0) ≤ 6 := hok.2.2.2.2.1
  refine lv_aload_n hx hb dX5_isNoLoss_0 rfl (lv_at hl 0 rfl) ?_
  refine lv_aload_n hx hb dX5_isNoLoss_1 rfl (lv_at hl 0 rfl) ?_
  refine lv_iload_n hx hb dX5_isNoLoss_2 rfl (lv_at hl 1 rfl) ?_
  refine hv_callir (va_runV (As := [.int c9]) (rest := [.ref o]) ⟨hx, hb, hml, hown, hts⟩ (met_X5_isCitizen l G hM c9 ) (cwV 1 hts (lw_V q2736 q2738 qs58 q106 q2739) rfl rfl rfl (by decide +kernel) ⟨Nat.le_of_ble_eq_true rfl, Nat.le_of_ble_eq_true rfl⟩) (hv_preV hw pk_X5 hM.1) rfl rfl hl.1 rfl (lv_room (Nat.le_of_ble_eq_true rfl)) dX5_isNoLoss_3 ⟨Nat.le_of_ble_eq_true rfl, Nat.le_of_ble_eq_true rfl⟩) hw (fun H locs hw => ?_)
  refine lv_iconst (v := 1) hx hb dX5_isNoLoss_6 (by decide) ?_
  refine lv_iconst (v := 1) hx hb dX5_isNoLoss_7 (by decide) ?_
  refine lv_iconst (v := 0) hx hb dX5_isNoLoss_8 (by decide) ?_
  refine mo_calli (va_runV (As := [.int (b01 (0 ≤ c9 ∧ c9 ≤ σ.2 0 5 - 1)), .int 1, .int 1, .int 0]) (rest := []) ⟨hx, hb, hml, hown, hts⟩ (met_X5_goes l G hM (0 ≤ c9 ∧ c9 ≤ σ.2 0 5 - 1) 1 (True) 0 (by decide) (fun z => absurd trivial z)) (cwV 4 hts (lw_V q2825 q2827 qs75 q106 q2828) rfl rfl rfl (by decide +kernel) ⟨Nat.le_of_ble_eq_true rfl, Nat.le_of_ble_eq_true rfl⟩) (hv_preV hw pk_X5 hM.1) rfl rfl hl.1 rfl (lv_room (Nat.le_of_ble_eq_true rfl)) dX5_isNoLoss_9 ⟨Nat.le_of_ble_eq_true rfl, Nat.le_of_ble_eq_true rfl⟩) hw hF (fun hh H locs hM hF hw => ?_)
  by_cases hA : (0 ≤ c9 ∧ c9 ≤ σ.2 0 5 - 1)
  · skip
    obtain ⟨nc, hnc, rfl⟩ := o_ix hA (congrArg (· - 1) hok.2.2.2.1) (by omega)
    refine lv_tope (y := b01 (o_nl (σ.2 0) nc 0 = true)) (b01_t ⟨hA, trivial⟩) ?_
    refine lv_istore_n (lv' := [(2, .int (b01 (o_nl (σ.2 0) nc 0 = true))), (0, .ref o), (1, .int (nI nc))]) hx hb dX5_isNoLoss_12 rfl hl (by decide) rfl (fun ls hl => ?_)
    refine lv_iconst (v := 1) hx hb dX5_isNoLoss_13 (by decide) ?_
    refine lv_istore_n (lv' := [(3, .int 1), (2, .int (b01 (o_nl (σ.2 0) nc 0 = true))), (0, .ref o), (1, .int (nI nc))]) hx hb dX5_isNoLoss_14 rfl hl (by decide) rfl (fun ls hl => ?_)
    have LP15 : ∀ (n15 : Nat) (k : Nat) (hh : hp) (H : Heap) (locs : List Loc) (ls : Array Slot), 9999 - k < n15 → k ≤ 9999 → isMod G hh o ma (mo_st σ 15 (m_gv ((0 ≤ nI nc ∧ nI nc ≤ σ.2 0 5 - 1)) 1 (True) 0)) → mo_fr o ma h hh → hv_W G s hh H locs → lv_has ls 4 [(3, .int (nI (k + 1))), (2, .int (b01 (o_nl (σ.2 0) nc k = true))), (0, .ref o), (1, .int (nI nc))] → W p l e ({ frames := 5, cells := 0, slots := 0, locals := 115 } : Room) s m a below meth c H locs 0 0 Q (F0 m 15 ls []) := by
      intro n15
      induction n15 with
      | zero => exact fun k hh H locs ls hmu15 => absurd hmu15 (Nat.not_lt_zero _)
      | succ n15 ih15 =>
        intro k hh H locs ls hmu15 hk hM hF hw hl
        refine lv_iload_n hx hb dX5_isNoLoss_15 rfl (lv_at hl 0 rfl) ?_
        refine lv_sipush (v := 9999) hx hb dX5_isNoLoss_16 (by decide) ?_
        refine lv_icmp_gt (tgt := 63) hx hb dX5_isNoLoss_19 (by decide) (fun c19 => ?_) (fun c19 => ?_)
        · skip
          obtain rfl : k = 9999 := by have := cmp_lt (a := 9999) c19 rfl rfl (by omega) (by omega); omega
          refine lv_iload_n hx hb dX5_isNoLoss_63 rfl (lv_at hl 1 rfl) ?_
          exact hret (b01_z _) hw ⟨b01_c ⟨fun z => ⟨hA, by rw [o_n_nI (show nc < 2 ^ 31 by omega)]; exact z⟩, fun z => by have z2 := z.2; rw [o_n_nI (show nc < 2 ^ 31 by omega)] at z2; exact z2⟩, hM, hF⟩ (Nat.le_of_ble_eq_true rfl) (Nat.le_of_ble_eq_true rfl) dX5_isNoLoss_64
        · skip
          have hk9 : k + 1 ≤ 9999 := cmp_nlt (a := 9999) c19 rfl rfl (by omega) (by omega)
          refine lv_iload_n hx hb dX5_isNoLoss_22 rfl (lv_at hl 1 rfl) ?_
          refine lv_if_eq (tgt := 63) hx hb dX5_isNoLoss_23 (by decide) (fun c23 => ?_) (fun c23 => ?_)
          · skip
            have c23 : ¬ (o_nl (σ.2 0) nc k = true) := b01_0.mp c23
            refine lv_iload_n hx hb dX5_isNoLoss_63 rfl (lv_at hl 1 rfl) ?_
            exact hret (b01_z _) hw ⟨(b01_f c23).trans (b01_f (fun z => by have z2 := z.2; rw [o_n_nI (show nc < 2 ^ 31 by omega)] at z2; exact o_nl_up c23 9999 hk z2)).symm, hM, hF⟩ (Nat.le_of_ble_eq_true rfl) (Nat.le_of_ble_eq_true rfl) dX5_isNoLoss_64
          · skip
            have c23 : o_nl (σ.2 0) nc k = true := b01_n.mp c23
            refine lv_iload_n hx hb dX5_isNoLoss_26 rfl (lv_at hl 0 rfl) ?_
            refine lv_aload_n hx hb dX5_isNoLoss_27 rfl (lv_at hl 2 rfl) ?_
            refine lv_iload_n hx hb dX5_isNoLoss_28 rfl (lv_at hl 3 rfl) ?_
            refine lv_iload_n hx hb dX5_isNoLoss_29 rfl (lv_at hl 0 rfl) ?_
            refine lv_iconst (v := 0) hx hb dX5_isNoLoss_30 (by decide) ?_
            refine hv_callir (va_runV (As := [.int (nI nc), .int (nI (k + 1)), .int 0]) (rest := [.int (nI (k + 1))]) ⟨hx, hb, hml, hown, hts⟩ (met_X5_taxOf l G hM nc (nI (k + 1)) (False) (hok) (hnc)) (cwV 3 hts (lw_V q2861 q2863 qs78 q106 q2864) rfl rfl rfl (by decide +kernel) ⟨Nat.le_of_ble_eq_true rfl, Nat.le_of_ble_eq_true rfl⟩) (hv_preV hw pk_X5 hM.1) rfl rfl hl.1 rfl (lv_room (Nat.le_of_ble_eq_true rfl)) dX5_isNoLoss_31 ⟨Nat.le_of_ble_eq_true rfl, Nat.le_of_ble_eq_true rfl⟩) hw (fun H locs hw => ?_)
            refine lv_isub hx hb dX5_isNoLoss_34 ?_
            refine lv_iload_n hx hb dX5_isNoLoss_35 rfl (lv_at hl 0 rfl) ?_
            refine lv_iconst (v := 1) hx hb dX5_isNoLoss_36 (by decide) ?_
            refine lv_isub hx hb dX5_isNoLoss_37 ?_
            refine lv_tope (y := nI k) (nI_pred _) ?_
            refine lv_aload_n hx hb dX5_isNoLoss_38 rfl (lv_at hl 2 rfl) ?_
            refine lv_iload_n hx hb dX5_isNoLoss_39 rfl (lv_at hl 3 rfl) ?_
            refine lv_iload_n hx hb dX5_isNoLoss_40 rfl (lv_at hl 0 rfl) ?_
            refine lv_iconst (v := 1) hx hb dX5_isNoLoss_41 (by decide) ?_
            refine lv_isub hx hb dX5_isNoLoss_42 ?_
            refine lv_tope (y := nI k) (nI_pred _) ?_
            refine lv_iconst (v := 0) hx hb dX5_isNoLoss_43 (by decide) ?_
            refine hv_callir (va_runV (As := [.int (nI nc), .int (nI k), .int 0]) (rest := [.int (nI k), .int ((nI (k + 1)) - (o_tax ((mo_st σ 15 (m_gv ((0 ≤ nI nc ∧ nI nc ≤ σ.2 0 5 - 1)) 1 (True) 0)).2 0) nc (nI (k + 1)) (False)))]) ⟨hx, hb, hml, hown, hts⟩ (met_X5_taxOf l G hM nc (nI k) (False) (hok) (hnc)) (cwV 3 hts (lw_V q2861 q2863 qs78 q106 q2864) rfl rfl rfl (by decide +kernel) ⟨Nat.le_of_ble_eq_true rfl, Nat.le_of_ble_eq_true rfl⟩) (hv_preV hw pk_X5 hM.1) rfl rfl hl.1 rfl (lv_room (Nat.le_of_ble_eq_true rfl)) dX5_isNoLoss_44 ⟨Nat.le_of_ble_eq_true rfl, Nat.le_of_ble_eq_true rfl⟩) hw (fun H locs hw => ?_)
            refine lv_isub hx hb dX5_isNoLoss_47 ?_
            refine lv_mat0 (P := ((nI (k + 1)) - (o_tax ((mo_st σ 15 (m_gv ((0 ≤ nI nc ∧ nI nc ≤ σ.2 0 5 - 1)) 1 (True) 0)).2 0) nc (nI (k + 1)) (False))) < ((nI k) - (o_tax ((mo_st σ 15 (m_gv ((0 ≤ nI nc ∧ nI nc ≤ σ.2 0 5 - 1)) 1 (True) 0)).2 0) nc (nI k) (False)))) (j := 56) (fun k1 k2 => lv_icmp_lt (tgt := 55) hx hb dX5_isNoLoss_48 (by decide) (fun c => lv_iconst (v := 0) hx hb dX5_isNoLoss_55 (by decide) (k1 c)) (fun c => lv_iconst (v := 1) hx hb dX5_isNoLoss_51 (by decide) (lv_goto (tgt := 56) hx hb dX5_isNoLoss_52 (by decide) (k2 c)))) ?_
            refine lv_tope (y := b01 (o_nl (σ.2 0) nc (k + 1) = true)) (o_nl_s c23) ?_
            refine lv_istore_n (lv' := [(2, .int (b01 (o_nl (σ.2 0) nc (k + 1) = true))), (3, .int (nI (k + 1))), (0, .ref o), (1, .int (nI nc))]) hx hb dX5_isNoLoss_56 rfl hl (by decide) rfl (fun ls hl => ?_)
            refine lv_iinc (v := nI (k + 1 + 1)) (lv' := [(3, .int (nI (k + 1 + 1))), (2, .int (b01 (o_nl (σ.2 0) nc (k + 1) = true))), (0, .ref o), (1, .int (nI nc))]) hx hb dX5_isNoLoss_57 hl (k := 1) rfl (by simp only [nI, Int32.ofNat_add] <;> rfl) (by decide) rfl (fun ls hl => ?_)
            refine lv_goto (tgt := 15) hx hb dX5_isNoLoss_60 (by decide) ?_
            exact ih15 (k + 1) _ _ _ _ (by omega) (by omega) hM hF hw (lv_sub hl [0, 1, 2, 3] rfl)
    exact LP15 _ 0 _ _ _ _ (Nat.lt_succ_self _) (by omega) hM hF hw (lv_sub hl [0, 1, 2, 3] rfl)
  · skip
    refine lv_tope (y := 0) (b01_f (fun z => hA z.1)) ?_
    refine lv_istore_n (lv' := [(2, .int 0), (0, .ref o), (1, .int c9)]) hx hb dX5_isNoLoss_12 rfl hl (by decide) rfl (fun ls hl => ?_)
    refine lv_iconst (v := 1) hx hb dX5_isNoLoss_13 (by decide) ?_
    refine lv_istore_n (lv' := [(3, .int 1), (2, .int 0), (0, .ref o), (1, .int c9)]) hx hb dX5_isNoLoss_14 rfl hl (by decide) rfl (fun ls hl => ?_)
    refine lv_iload_n hx hb dX5_isNoLoss_15 rfl (lv_at hl 0 rfl) ?_
    refine lv_sipush (v := 9999) hx hb dX5_isNoLoss_16 (by decide) ?_
    refine lv_icmp_gt (tgt := 63) hx hb dX5_isNoLoss_19 (by decide) (fun c => absurd c (by decide)) (fun _ => ?_)
    refine lv_iload_n hx hb dX5_isNoLoss_22 rfl (lv_at hl 1 rfl) ?_
    refine lv_if_eq (tgt := 63) hx hb dX5_isNoLoss_23 (by decide) (fun _ => ?_) (fun c => absurd c (by decide))
    refine lv_iload_n hx hb dX5_isNoLoss_63 rfl (lv_at hl 1 rfl) ?_
    exact hret rfl hw ⟨(b01_f (fun z => hA z.1)).symm, hM, hF⟩ (Nat.le_of_ble_eq_true rfl) (Nat.le_of_ble_eq_true rfl) dX5_isNoLoss_64
set_option maxHeartbeats 400000 in
theorem met_X5_ranked (l : Launch) (G : hG) {h : hp} {o : Nat} {ma : Nat → Nat} {σ : MS} (hM : isMod G h o ma σ) (x : Int32) (hok : okI (σ.2 0)) : mo_Mi l G yX5_ranked (ws_ yX5_ranked cX5_ranked 6 (Option.some Jvm.ClassFile.FieldType.int)) ({ frames := 2, cells := 0, slots := 0, locals := 46 } : Room) [.ref o, .int x] h o ma (if o_rk (σ.2 0) x (o_people (σ.2 0)) = -1 then 0 else o_rk (σ.2 0) x (o_people (σ.2 0))) (mo_st σ 15 (b01 (o_rk (σ.2 0) x (o_people (σ.2 0)) = -1))) := by
  refine hv_bi .int (Or.inl rfl) (own := RX5) (by decide +kernel) rfl (Nat.le_of_ble_eq_true rfl) (fun p e s m a below meth c ls Q hx hb hml hown hts hnm hret hw hl => ?_)
  have hl : lv_has ls 6 [(0, .ref o), (1, .int x)] := hl
  have hF : mo_fr o ma h h := mo_fr.rf
  have hmx : o_many (σ.2 0) ≤ 5 := hok.2.2.1
  have hpx : o_people (σ.2 0) ≤ 6 := hok.2.2.2.2.1
  have hn5 := hok.2.2.2.1
  refine lv_iconst (v := (-1)) hx hb dX5_ranked_0 (by decide) ?_
  refine lv_istore_n (lv' := [(2, .int (-1)), (0, .ref o), (1, .int x)]) hx hb dX5_ranked_1 rfl hl (by decide) rfl (fun ls hl => ?_)
  refine lv_iconst (v := 0) hx hb dX5_ranked_2 (by decide) ?_
  refine lv_istore_n (lv' := [(3, .int 0), (2, .int (-1)), (0, .ref o), (1, .int x)]) hx hb dX5_ranked_3 rfl hl (by decide) rfl (fun ls hl => ?_)
  have LP4 : ∀ (n4 : Nat) (k : Nat) (H : Heap) (locs : List Loc) (ls : Array Slot), o_people (σ.2 0) - k < n4 → k ≤ o_people (σ.2 0) → hv_W G s h H locs → lv_has ls 6 [(3, .int (nI k)), (2, .int (o_rk (σ.2 0) x k)), (0, .ref o), (1, .int x)] → W p l e ({ frames := 2, cells := 0, slots := 0, locals := 46 } : Room) s m a below meth c H locs 0 0 Q (F0 m 4 ls []) := by
    intro n4
    induction n4 with
    | zero => exact fun k H locs ls hmu4 => absurd hmu4 (Nat.not_lt_zero _)
    | succ n4 ih4 =>
      intro k H locs ls hmu4 hkk hw hl
      refine lv_iload_n hx hb dX5_ranked_4 rfl (lv_at hl 0 rfl) ?_
      refine lv_aload_n hx hb dX5_ranked_5 rfl (lv_at hl 2 rfl) ?_
      refine mo_get hx hb hts hown hw hM 0 (by decide) q2554 rfl (v := .ref (ma 0)) rfl dX5_ranked_6 ?_
      refine lv_iconst (v := 5) hx hb dX5_ranked_9 (by decide) ?_
      refine mo_ald hx hb hw hM 0 rfl (j := 5) rfl (show 5 < 137 by omega) dX5_ranked_10 ?_
      refine lv_icmp_ge (tgt := 81) hx hb dX5_ranked_11 (by decide) (fun c11 => ?_) (fun c11 => ?_)
      · skip
        have hxk : o_people (σ.2 0) ≤ k := cmp_le c11 hn5 rfl (by omega) (by omega)
        obtain rfl : k = o_people (σ.2 0) := by omega
        refine lv_aload_n hx hb dX5_ranked_81 rfl (lv_at hl 2 rfl) ?_
        refine lv_iload_n hx hb dX5_ranked_82 rfl (lv_at hl 1 rfl) ?_
        refine lv_iconst (v := (-1)) hx hb dX5_ranked_83 (by decide) ?_
        refine lv_mat1 (P := (o_rk (σ.2 0) x (o_people (σ.2 0))) = (-1)) (j := 92) (fun k1 k2 => lv_icmp_ne (tgt := 91) hx hb dX5_ranked_84 (by decide) (fun c => lv_iconst (v := 0) hx hb dX5_ranked_91 (by decide) (k2 c)) (fun c => lv_iconst (v := 1) hx hb dX5_ranked_87 (by decide) (lv_goto (tgt := 92) hx hb dX5_ranked_88 (by decide) (k1 c)))) ?_
        refine mo_put hx hb hts hown hw hM hF 15 (by decide) rfl q2569 rfl rfl rfl rfl dX5_ranked_92 (fun hh H locs hM hF hw => ?_)
        refine lv_iload_n hx hb dX5_ranked_95 rfl (lv_at hl 1 rfl) ?_
        refine lv_iconst (v := (-1)) hx hb dX5_ranked_96 (by decide) ?_
        refine lv_icmp_ne (tgt := 104) hx hb dX5_ranked_97 (by decide) (fun c97 => ?_) (fun c97 => ?_)
        · skip
          refine lv_iload_n hx hb dX5_ranked_104 rfl (lv_at hl 1 rfl) ?_
          exact hret rfl hw ⟨(if_neg c97).symm, hM, hF⟩ (Nat.le_of_ble_eq_true rfl) (Nat.le_of_ble_eq_true rfl) dX5_ranked_105
        · skip
          refine lv_iconst (v := 0) hx hb dX5_ranked_100 (by decide) ?_
          refine lv_goto (tgt := 105) hx hb dX5_ranked_101 (by decide) ?_
          exact hret rfl hw ⟨(if_pos c97).symm, hM, hF⟩ (Nat.le_of_ble_eq_true rfl) (Nat.le_of_ble_eq_true rfl) dX5_ranked_105
      · skip
        have hxk : k < o_people (σ.2 0) := cmp_nle c11 hn5 rfl (by omega) (by omega)
        refine lv_iconst (v := 0) hx hb dX5_ranked_14 (by decide) ?_
        refine lv_istore (lv' := [(4, .int 0), (3, .int (nI k)), (2, .int (o_rk (σ.2 0) x k)), (0, .ref o), (1, .int x)]) hx hb dX5_ranked_15 hl (by decide) rfl (fun ls hl => ?_)
        refine lv_iconst (v := 0) hx hb dX5_ranked_17 (by decide) ?_
        refine lv_istore (lv' := [(5, .int 0), (4, .int 0), (3, .int (nI k)), (2, .int (o_rk (σ.2 0) x k)), (0, .ref o), (1, .int x)]) hx hb dX5_ranked_18 hl (by decide) rfl (fun ls hl => ?_)
        have LP20 : ∀ (n20 : Nat) (j : Nat) (H : Heap) (locs : List Loc) (ls : Array Slot), o_people (σ.2 0) - j < n20 → j ≤ o_people (σ.2 0) → hv_W G s h H locs → lv_has ls 6 [(5, .int (nI j)), (4, .int (o_cnt (σ.2 0) k j)), (3, .int (nI k)), (2, .int (o_rk (σ.2 0) x k)), (0, .ref o), (1, .int x)] → W p l e ({ frames := 2, cells := 0, slots := 0, locals := 46 } : Room) s m a below meth c H locs 0 0 Q (F0 m 20 ls []) := by
          intro n20
          induction n20 with
          | zero => exact fun j H locs ls hmu20 => absurd hmu20 (Nat.not_lt_zero _)
          | succ n20 ih20 =>
            intro j H locs ls hmu20 hkj hw hl
            refine lv_iload hx hb dX5_ranked_20 (lv_at hl 0 rfl) ?_
            refine lv_aload_n hx hb dX5_ranked_22 rfl (lv_at hl 4 rfl) ?_
            refine mo_get hx hb hts hown hw hM 0 (by decide) q2554 rfl (v := .ref (ma 0)) rfl dX5_ranked_23 ?_
            refine lv_iconst (v := 5) hx hb dX5_ranked_26 (by decide) ?_
            refine mo_ald hx hb hw hM 0 rfl (j := 5) rfl (show 5 < 137 by omega) dX5_ranked_27 ?_
            refine lv_icmp_ge (tgt := 63) hx hb dX5_ranked_28 (by decide) (fun c28 => ?_) (fun c28 => ?_)
            · skip
              have hxj : o_people (σ.2 0) ≤ j := cmp_le c28 hn5 rfl (by omega) (by omega)
              obtain rfl : j = o_people (σ.2 0) := by omega
              refine lv_iload hx hb dX5_ranked_63 (lv_at hl 1 rfl) ?_
              refine lv_iload_n hx hb dX5_ranked_65 rfl (lv_at hl 5 rfl) ?_
              refine lv_icmp_ne (tgt := 73) hx hb dX5_ranked_66 (by decide) (fun c66 => ?_) (fun c66 => ?_)
              · skip
                refine lv_iload_n hx hb dX5_ranked_73 rfl (lv_at hl 3 rfl) ?_
                refine lv_tope (y := o_rk (σ.2 0) x (k + 1)) (if_neg c66).symm ?_
                refine lv_istore_n (lv' := [(2, .int (o_rk (σ.2 0) x (k + 1))), (5, .int (nI (o_people (σ.2 0)))), (4, .int (o_cnt (σ.2 0) k (o_people (σ.2 0)))), (3, .int (nI k)), (0, .ref o), (1, .int x)]) hx hb dX5_ranked_74 rfl hl (by decide) rfl (fun ls hl => ?_)
                refine lv_iinc (v := nI (k + 1)) (lv' := [(3, .int (nI (k + 1))), (2, .int (o_rk (σ.2 0) x (k + 1))), (5, .int (nI (o_people (σ.2 0)))), (4, .int (o_cnt (σ.2 0) k (o_people (σ.2 0)))), (0, .ref o), (1, .int x)]) hx hb dX5_ranked_75 hl (k := 3) rfl (by simp only [nI, Int32.ofNat_add] <;> rfl) (by decide) rfl (fun ls hl => ?_)
                refine lv_goto (tgt := 4) hx hb dX5_ranked_78 (by decide) ?_
                exact ih4 (k + 1) _ _ _ (by omega) (by omega) hw (lv_sub hl [0, 1, 4, 5] rfl)
              · skip
                refine lv_iload_n hx hb dX5_ranked_69 rfl (lv_at hl 2 rfl) ?_
                refine lv_goto (tgt := 74) hx hb dX5_ranked_70 (by decide) ?_
                refine lv_tope (y := o_rk (σ.2 0) x (k + 1)) (if_pos c66).symm ?_
                refine lv_istore_n (lv' := [(2, .int (o_rk (σ.2 0) x (k + 1))), (5, .int (nI (o_people (σ.2 0)))), (4, .int (o_cnt (σ.2 0) k (o_people (σ.2 0)))), (3, .int (nI k)), (0, .ref o), (1, .int x)]) hx hb dX5_ranked_74 rfl hl (by decide) rfl (fun ls hl => ?_)
                refine lv_iinc (v := nI (k + 1)) (lv' := [(3, .int (nI (k + 1))), (2, .int (o_rk (σ.2 0) x (k + 1))), (5, .int (nI (o_people (σ.2 0)))), (4, .int (o_cnt (σ.2 0) k (o_people (σ.2 0)))), (0, .ref o), (1, .int x)]) hx hb dX5_ranked_75 hl (k := 3) rfl (by simp only [nI, Int32.ofNat_add] <;> rfl) (by decide) rfl (fun ls hl => ?_)
                refine lv_goto (tgt := 4) hx hb dX5_ranked_78 (by decide) ?_
                exact ih4 (k + 1) _ _ _ (by omega) (by omega) hw (lv_sub hl [0, 1, 4, 5] rfl)
            · skip
              have hxj : j < o_people (σ.2 0) := cmp_nle c28 hn5 rfl (by omega) (by omega)
              refine lv_iload hx hb dX5_ranked_31 (lv_at hl 1 rfl) ?_
              refine lv_iload hx hb dX5_ranked_33 (lv_at hl 0 rfl) ?_
              refine lv_iload_n hx hb dX5_ranked_35 rfl (lv_at hl 2 rfl) ?_
              refine lv_icmp_eq (tgt := 53) hx hb dX5_ranked_36 (by decide) (fun c36 => ?_) (fun c36 => ?_)
              · skip
                refine lv_iconst (v := 0) hx hb dX5_ranked_53 (by decide) ?_
                refine lv_iadd hx hb dX5_ranked_54 ?_
                refine lv_tope (y := o_cnt (σ.2 0) k (j + 1)) (o_cnt_t c36) ?_
                refine lv_istore (lv' := [(4, .int (o_cnt (σ.2 0) k (j + 1))), (5, .int (nI j)), (3, .int (nI k)), (2, .int (o_rk (σ.2 0) x k)), (0, .ref o), (1, .int x)]) hx hb dX5_ranked_55 hl (by decide) rfl (fun ls hl => ?_)
                refine lv_iinc (v := nI (j + 1)) (lv' := [(5, .int (nI (j + 1))), (4, .int (o_cnt (σ.2 0) k (j + 1))), (3, .int (nI k)), (2, .int (o_rk (σ.2 0) x k)), (0, .ref o), (1, .int x)]) hx hb dX5_ranked_57 hl (k := 1) rfl (by simp only [nI, Int32.ofNat_add] <;> rfl) (by decide) rfl (fun ls hl => ?_)
                refine lv_goto (tgt := 20) hx hb dX5_ranked_60 (by decide) ?_
                exact ih20 (j + 1) _ _ _ (by omega) (by omega) hw (lv_sub hl [0, 1, 2, 3, 4, 5] rfl)
              · skip
                refine lv_aload_n hx hb dX5_ranked_39 rfl (lv_at hl 4 rfl) ?_
                refine lv_iload hx hb dX5_ranked_40 (lv_at hl 0 rfl) ?_
                refine lv_iload_n hx hb dX5_ranked_42 rfl (lv_at hl 2 rfl) ?_
                refine hv_callir (va_runV (As := [.int (nI j), .int (nI k)]) (rest := [.int (o_cnt (σ.2 0) k j)]) ⟨hx, hb, hml, hown, hts⟩ (met_X5_isAhead l G hM j k (show j < 6 by omega) (show k < 6 by omega)) (cwV 2 hts (lw_V q2894 q2896 qs79 q106 q2897) rfl rfl rfl (by decide +kernel) ⟨Nat.le_of_ble_eq_true rfl, Nat.le_of_ble_eq_true rfl⟩) (hv_preV hw pk_X5 hM.1) rfl rfl hl.1 rfl (lv_room (Nat.le_of_ble_eq_true rfl)) dX5_ranked_43 ⟨Nat.le_of_ble_eq_true rfl, Nat.le_of_ble_eq_true rfl⟩) hw (fun H locs hw => ?_)
                refine lv_mat0 (P := (o_ahd (σ.2 0) j k) = 0) (j := 54) (fun k1 k2 => lv_if_eq (tgt := 53) hx hb dX5_ranked_46 (by decide) (fun c => lv_iconst (v := 0) hx hb dX5_ranked_53 (by decide) (k1 c)) (fun c => lv_iconst (v := 1) hx hb dX5_ranked_49 (by decide) (lv_goto (tgt := 54) hx hb dX5_ranked_50 (by decide) (k2 c)))) ?_
                refine lv_iadd hx hb dX5_ranked_54 ?_
                refine lv_tope (y := o_cnt (σ.2 0) k (j + 1)) (o_cnt_f c36) ?_
                refine lv_istore (lv' := [(4, .int (o_cnt (σ.2 0) k (j + 1))), (5, .int (nI j)), (3, .int (nI k)), (2, .int (o_rk (σ.2 0) x k)), (0, .ref o), (1, .int x)]) hx hb dX5_ranked_55 hl (by decide) rfl (fun ls hl => ?_)
                refine lv_iinc (v := nI (j + 1)) (lv' := [(5, .int (nI (j + 1))), (4, .int (o_cnt (σ.2 0) k (j + 1))), (3, .int (nI k)), (2, .int (o_rk (σ.2 0) x k)), (0, .ref o), (1, .int x)]) hx hb dX5_ranked_57 hl (k := 1) rfl (by simp only [nI, Int32.ofNat_add] <;> rfl) (by decide) rfl (fun ls hl => ?_)
                refine lv_goto (tgt := 20) hx hb dX5_ranked_60 (by decide) ?_
                exact ih20 (j + 1) _ _ _ (by omega) (by omega) hw (lv_sub hl [0, 1, 2, 3, 4, 5] rfl)
        exact LP20 _ 0 _ _ _ (Nat.lt_succ_self _) (by omega) hw (lv_sub hl [0, 1, 2, 3, 4, 5] rfl)
  exact LP4 _ 0 _ _ _ (Nat.lt_succ_self _) (by omega) hw (lv_sub hl [0, 1, 2, 3] rfl)
set_option maxHeartbeats 400000 in
theorem met_X5_auditIn (l : Launch) (G : hG) {h : hp} {o : Nat} {ma : Nat → Nat} {σ : MS} (hM : isMod G h o ma σ) (x : Int32) : mo_Mi l G yX5_auditIn (ws_ yX5_auditIn cX5_auditIn 4 (Option.some Jvm.ClassFile.FieldType.int)) ({ frames := 1, cells := 0, slots := 0, locals := 24 } : Room) [.ref o, .int x] h o ma (if (1 ≤ x ∧ x ≤ 40) ∧ ¬ (σ.2 0 5 ≤ 0) then o_lots (σ.2 0 6) (o_n x) - o_lots (σ.2 0 6) (o_n x) / σ.2 0 5 * σ.2 0 5 else 0) (mo_st σ 15 (m_gv (1 ≤ x ∧ x ≤ 40) 1 (¬ (σ.2 0 5 ≤ 0)) 2)) := by
  refine hv_bi .int (Or.inl rfl) (own := RX5) (by decide +kernel) rfl (Nat.le_of_ble_eq_true rfl) (fun p e s m a below meth c ls Q hx hb hml hown hts hnm hret hw hl => ?_)
  have hl : lv_has ls 4 [(0, .ref o), (1, .int x)] := hl
  have hF : mo_fr o ma h h := mo_fr.rf
  refine lv_aload_n hx hb dX5_auditIn_0 rfl (lv_at hl 0 rfl) ?_
  refine lv_iload_n hx hb dX5_auditIn_1 rfl (lv_at hl 1 rfl) ?_
  refine lv_iconst (v := 1) hx hb dX5_auditIn_2 (by decide) ?_
  refine lv_bipush (v := 40) hx hb dX5_auditIn_3 (by decide) ?_
  refine hv_callir (va_runS (As := [.int x, .int 1, .int 40]) (rest := [.ref o]) ⟨hx, hb, hml, hown, hts⟩ (met_X5_isIn l G x 1 40 ) (va_cwS 3 hts (lw_S q2666 q2667 q106 q2668) rfl rfl rfl (by decide +kernel) ⟨Nat.le_of_ble_eq_true rfl, Nat.le_of_ble_eq_true rfl⟩) (hv_preS hw) rfl rfl hl.1 rfl (lv_room (Nat.le_of_ble_eq_true rfl)) dX5_auditIn_5 ⟨Nat.le_of_ble_eq_true rfl, Nat.le_of_ble_eq_true rfl⟩) hw (fun H locs hw => ?_)
  refine lv_iconst (v := 1) hx hb dX5_auditIn_8 (by decide) ?_
  refine lv_aload_n hx hb dX5_auditIn_9 rfl (lv_at hl 0 rfl) ?_
  refine mo_get hx hb hts hown hw hM 0 (by decide) q2554 rfl (v := .ref (ma 0)) rfl dX5_auditIn_10 ?_
  refine lv_iconst (v := 5) hx hb dX5_auditIn_13 (by decide) ?_
  refine mo_ald hx hb hw hM 0 rfl (j := 5) rfl (show 5 < 137 by omega) dX5_auditIn_14 ?_
  refine lv_mat0 (P := (σ.2 0 5) ≤ 0) (j := 23) (fun k1 k2 => lv_if_le (tgt := 22) hx hb dX5_auditIn_15 (by decide) (fun c => lv_iconst (v := 0) hx hb dX5_auditIn_22 (by decide) (k1 c)) (fun c => lv_iconst (v := 1) hx hb dX5_auditIn_18 (by decide) (lv_goto (tgt := 23) hx hb dX5_auditIn_19 (by decide) (k2 c)))) ?_
  refine lv_iconst (v := 2) hx hb dX5_auditIn_23 (by decide) ?_
  refine mo_calli (va_runV (As := [.int (b01 (1 ≤ x ∧ x ≤ 40)), .int 1, .int (b01 (¬ ((σ.2 0 5) ≤ 0))), .int 2]) (rest := []) ⟨hx, hb, hml, hown, hts⟩ (met_X5_goes l G hM (1 ≤ x ∧ x ≤ 40) 1 (¬ ((σ.2 0 5) ≤ 0)) 2 (by decide) (fun _ => by decide)) (cwV 4 hts (lw_V q2825 q2827 qs75 q106 q2828) rfl rfl rfl (by decide +kernel) ⟨Nat.le_of_ble_eq_true rfl, Nat.le_of_ble_eq_true rfl⟩) (hv_preV hw pk_X5 hM.1) rfl rfl hl.1 rfl (lv_room (Nat.le_of_ble_eq_true rfl)) dX5_auditIn_24 ⟨Nat.le_of_ble_eq_true rfl, Nat.le_of_ble_eq_true rfl⟩) hw hF (fun hh H locs hM hF hw => ?_)
  refine lv_if_ne (tgt := 32) hx hb dX5_auditIn_27 (by decide) (fun c27 => ?_) (fun c27 => ?_)
  · skip
    have c27 : (1 ≤ x ∧ x ≤ 40) ∧ (¬ ((σ.2 0 5) ≤ 0)) := b01_n.mp c27
    refine lv_aload_n hx hb dX5_auditIn_32 rfl (lv_at hl 0 rfl) ?_
    refine mo_get hx hb hts hown hw hM 0 (by decide) q2554 rfl (v := .ref (ma 0)) rfl dX5_auditIn_33 ?_
    refine lv_bipush (v := 6) hx hb dX5_auditIn_36 (by decide) ?_
    refine mo_ald hx hb hw hM 0 rfl (j := 6) rfl (show 6 < 137 by omega) dX5_auditIn_38 ?_
    refine lv_istore_n (lv' := [(2, .int (σ.2 0 6)), (0, .ref o), (1, .int x)]) hx hb dX5_auditIn_39 rfl hl (by decide) rfl (fun ls hl => ?_)
    refine lv_iconst (v := 0) hx hb dX5_auditIn_40 (by decide) ?_
    refine lv_istore_n (lv' := [(3, .int 0), (2, .int (σ.2 0 6)), (0, .ref o), (1, .int x)]) hx hb dX5_auditIn_41 rfl hl (by decide) rfl (fun ls hl => ?_)
    obtain ⟨nx, hnx, rfl⟩ := o_ixl (n := 40) ⟨Int32.le_trans (by decide) c27.1.1, c27.1.2⟩ rfl (by omega)
    have LP42 : ∀ (n42 : Nat) (k9 : Nat) (hh : hp) (H : Heap) (locs : List Loc) (ls : Array Slot), nx - k9 < n42 → k9 ≤ nx → isMod G hh o ma (mo_st σ 15 (m_gv (1 ≤ nI nx ∧ nI nx ≤ 40) 1 (¬ (σ.2 0 5 ≤ 0)) 2)) → mo_fr o ma h hh → hv_W G s hh H locs → lv_has ls 4 [(3, .int (nI k9)), (2, .int (o_lots (σ.2 0 6) k9)), (0, .ref o), (1, .int (nI nx))] → W p l e ({ frames := 1, cells := 0, slots := 0, locals := 24 } : Room) s m a below meth c H locs 0 0 Q (F0 m 42 ls []) := by
      intro n42
      induction n42 with
      | zero => exact fun k9 hh H locs ls hmu42 => absurd hmu42 (Nat.not_lt_zero _)
      | succ n42 ih42 =>
        intro k9 hh H locs ls hmu42 hkk9 hM hF hw hl
        refine lv_iload_n hx hb dX5_auditIn_42 rfl (lv_at hl 0 rfl) ?_
        refine lv_iload_n hx hb dX5_auditIn_43 rfl (lv_at hl 3 rfl) ?_
        refine lv_icmp_ge (tgt := 58) hx hb dX5_auditIn_44 (by decide) (fun c44 => ?_) (fun c44 => ?_)
        · skip
          have hxk9 : nx ≤ k9 := cmp_le c44 rfl rfl (by omega) (by omega)
          obtain rfl : k9 = nx := by omega
          have e9k : o_n (nI k9) = k9 := o_n_nI (by omega)
          refine lv_iload_n hx hb dX5_auditIn_58 rfl (lv_at hl 1 rfl) ?_
          refine lv_aload_n hx hb dX5_auditIn_59 rfl (lv_at hl 2 rfl) ?_
          refine mo_get hx hb hts hown hw hM 0 (by decide) q2554 rfl (v := .ref (ma 0)) rfl dX5_auditIn_60 ?_
          refine lv_iconst (v := 5) hx hb dX5_auditIn_63 (by decide) ?_
          refine mo_ald hx hb hw hM 0 rfl (j := 5) rfl (show 5 < 137 by omega) dX5_auditIn_64 ?_
          refine lv_irem hx hb dX5_auditIn_65 (fun z => c27.2 (by show σ.2 0 5 ≤ 0; rw [show σ.2 0 5 = 0 from z]; decide)) ?_
          exact hret rfl hw ⟨by rw [if_pos c27, e9k] <;> rfl, hM, hF⟩ (Nat.le_of_ble_eq_true rfl) (Nat.le_of_ble_eq_true rfl) dX5_auditIn_66
        · skip
          have hxk9 : k9 < nx := cmp_nle c44 rfl rfl (by omega) (by omega)
          refine lv_iload_n hx hb dX5_auditIn_47 rfl (lv_at hl 1 rfl) ?_
          refine hv_callir (va_runS (As := [.int (o_lots (σ.2 0 6) k9)]) (rest := []) ⟨hx, hb, hml, hown, hts⟩ (met_X5_nextLot l G (o_lots (σ.2 0 6) k9) ) (va_cwS 1 hts (lw_S q2789 q2790 q106 q2791) rfl rfl rfl (by decide +kernel) ⟨Nat.le_of_ble_eq_true rfl, Nat.le_of_ble_eq_true rfl⟩) (hv_preS hw) rfl rfl hl.1 rfl (lv_room (Nat.le_of_ble_eq_true rfl)) dX5_auditIn_48 ⟨Nat.le_of_ble_eq_true rfl, Nat.le_of_ble_eq_true rfl⟩) hw (fun H locs hw => ?_)
          refine lv_istore_n (lv' := [(2, .int ((41 * (o_lots (σ.2 0 6) k9) + 17) - (41 * (o_lots (σ.2 0 6) k9) + 17) / 10000 * 10000)), (3, .int (nI k9)), (0, .ref o), (1, .int (nI nx))]) hx hb dX5_auditIn_51 rfl hl (by decide) rfl (fun ls hl => ?_)
          refine lv_iinc (v := nI (k9 + 1)) (lv' := [(3, .int (nI (k9 + 1))), (2, .int ((41 * (o_lots (σ.2 0 6) k9) + 17) - (41 * (o_lots (σ.2 0 6) k9) + 17) / 10000 * 10000)), (0, .ref o), (1, .int (nI nx))]) hx hb dX5_auditIn_52 hl (k := 1) rfl (by simp only [nI, Int32.ofNat_add] <;> rfl) (by decide) rfl (fun ls hl => ?_)
          refine lv_goto (tgt := 42) hx hb dX5_auditIn_55 (by decide) ?_
          exact ih42 (k9 + 1) _ _ _ _ (by omega) (by omega) hM hF hw (lv_sub hl [0, 1, 2, 3] rfl)
    exact LP42 _ 0 _ _ _ _ (Nat.lt_succ_self _) (by omega) hM hF hw (lv_sub hl [0, 1, 2, 3] rfl)
  · skip
    have c27 : ¬ ((1 ≤ x ∧ x ≤ 40) ∧ (¬ ((σ.2 0 5) ≤ 0))) := b01_0.mp c27
    refine lv_iconst (v := 0) hx hb dX5_auditIn_30 (by decide) ?_
    exact hret rfl hw ⟨(if_neg c27).symm, hM, hF⟩ (Nat.le_of_ble_eq_true rfl) (Nat.le_of_ble_eq_true rfl) dX5_auditIn_31
set_option maxHeartbeats 400000 in
theorem met_X5_citizenOf (l : Launch) (G : hG) {h : hp} {o : Nat} {ma : Nat → Nat} {σ : MS} (hM : isMod G h o ma σ) (c9 : Int32) (w9 : Int32) (hok : okI (σ.2 0)) : mo_Mi l G yX5_citizenOf (ws_ yX5_citizenOf cX5_citizenOf 3 (Option.some Jvm.ClassFile.FieldType.int)) ({ frames := 4, cells := 0, slots := 0, locals := 91 } : Room) [.ref o, .int c9, .int w9] h o ma (if (0 ≤ c9 ∧ c9 ≤ σ.2 0 5 - 1) ∧ (0 ≤ w9 ∧ w9 ≤ 8) then o_cit (σ.2 0) (o_n c9) (o_n w9) else 0) (mo_st σ 15 (m_gv ((0 ≤ c9 ∧ c9 ≤ σ.2 0 5 - 1)) 1 ((0 ≤ w9 ∧ w9 ≤ 8)) 2)) := by
  refine hv_bi .int (Or.inl rfl) (own := RX5) (by decide +kernel) rfl (Nat.le_of_ble_eq_true rfl) (fun p e s m a below meth c ls Q hx hb hml hown hts hnm hret hw hl => ?_)
  have hl : lv_has ls 3 [(0, .ref o), (1, .int c9), (2, .int w9)] := hl
  have hF : mo_fr o ma h h := mo_fr.rf
  have hmx : o_many (σ.2 0) ≤ 5 := hok.2.2.1
  have hpx : o_people (σ.2 0) ≤ 6 := hok.2.2.2.2.1
  refine lv_aload_n hx hb dX5_citizenOf_0 rfl (lv_at hl 0 rfl) ?_
  refine lv_aload_n hx hb dX5_citizenOf_1 rfl (lv_at hl 0 rfl) ?_
  refine lv_iload_n hx hb dX5_citizenOf_2 rfl (lv_at hl 1 rfl) ?_
  refine hv_callir (va_runV (As := [.int c9]) (rest := [.ref o]) ⟨hx, hb, hml, hown, hts⟩ (met_X5_isCitizen l G hM c9 ) (cwV 1 hts (lw_V q2736 q2738 qs58 q106 q2739) rfl rfl rfl (by decide +kernel) ⟨Nat.le_of_ble_eq_true rfl, Nat.le_of_ble_eq_true rfl⟩) (hv_preV hw pk_X5 hM.1) rfl rfl hl.1 rfl (lv_room (Nat.le_of_ble_eq_true rfl)) dX5_citizenOf_3 ⟨Nat.le_of_ble_eq_true rfl, Nat.le_of_ble_eq_true rfl⟩) hw (fun H locs hw => ?_)
  refine lv_iconst (v := 1) hx hb dX5_citizenOf_6 (by decide) ?_
  refine lv_iload_n hx hb dX5_citizenOf_7 rfl (lv_at hl 2 rfl) ?_
  refine lv_iconst (v := 0) hx hb dX5_citizenOf_8 (by decide) ?_
  refine lv_bipush (v := 8) hx hb dX5_citizenOf_9 (by decide) ?_
  refine hv_callir (va_runS (As := [.int w9, .int 0, .int 8]) (rest := [.int 1, .int (b01 (0 ≤ c9 ∧ c9 ≤ σ.2 0 5 - 1)), .ref o]) ⟨hx, hb, hml, hown, hts⟩ (met_X5_isIn l G w9 0 8 ) (va_cwS 3 hts (lw_S q2666 q2667 q106 q2668) rfl rfl rfl (by decide +kernel) ⟨Nat.le_of_ble_eq_true rfl, Nat.le_of_ble_eq_true rfl⟩) (hv_preS hw) rfl rfl hl.1 rfl (lv_room (Nat.le_of_ble_eq_true rfl)) dX5_citizenOf_11 ⟨Nat.le_of_ble_eq_true rfl, Nat.le_of_ble_eq_true rfl⟩) hw (fun H locs hw => ?_)
  refine lv_iconst (v := 2) hx hb dX5_citizenOf_14 (by decide) ?_
  refine mo_calli (va_runV (As := [.int (b01 (0 ≤ c9 ∧ c9 ≤ σ.2 0 5 - 1)), .int 1, .int (b01 (0 ≤ w9 ∧ w9 ≤ 8)), .int 2]) (rest := []) ⟨hx, hb, hml, hown, hts⟩ (met_X5_goes l G hM (0 ≤ c9 ∧ c9 ≤ σ.2 0 5 - 1) 1 (0 ≤ w9 ∧ w9 ≤ 8) 2 (by decide) (fun _ => by decide)) (cwV 4 hts (lw_V q2825 q2827 qs75 q106 q2828) rfl rfl rfl (by decide +kernel) ⟨Nat.le_of_ble_eq_true rfl, Nat.le_of_ble_eq_true rfl⟩) (hv_preV hw pk_X5 hM.1) rfl rfl hl.1 rfl (lv_room (Nat.le_of_ble_eq_true rfl)) dX5_citizenOf_15 ⟨Nat.le_of_ble_eq_true rfl, Nat.le_of_ble_eq_true rfl⟩) hw hF (fun hh H locs hM hF hw => ?_)
  refine lv_if_ne (tgt := 23) hx hb dX5_citizenOf_18 (by decide) (fun c18 => ?_) (fun c18 => ?_)
  · skip
    have c18 : (0 ≤ c9 ∧ c9 ≤ σ.2 0 5 - 1) ∧ (0 ≤ w9 ∧ w9 ≤ 8) := b01_n.mp c18
    obtain ⟨nc, hnc, rfl⟩ := o_ix c18.1 (congrArg (· - 1) hok.2.2.2.1) (by omega)
    obtain ⟨nw, hnw, rfl⟩ := o_ix c18.2 (show (8 : Int32) = nI 9 - 1 by decide) (by omega)
    refine lv_iload_n hx hb dX5_citizenOf_23 rfl (lv_at hl 2 rfl) ?_
    rcases (show 0 ≤ nw ∧ nw ≤ 2 ∨ nw = 3 ∨ nw = 4 ∨ nw = 5 ∨ 5 < nw by omega) with tg | rfl | rfl | rfl | tg
    · skip
      refine lv_tableIn (tgt := 64) hx hb dX5_citizenOf_24 (tab_in (n := 5) (show nw ≤ 5 by omega) (by decide)).1 (tab_in (n := 5) (show nw ≤ 5 by omega) (by decide)).2 (by rw [tab_at (show nw < 2 ^ 31 by omega)]; rcases (show nw = 0 ∨ nw = 1 ∨ nw = 2 by omega) with rfl | rfl | rfl <;> rfl) (by decide) ?_
      refine lv_aload_n hx hb dX5_citizenOf_64 rfl (lv_at hl 0 rfl) ?_
      refine lv_iload_n hx hb dX5_citizenOf_65 rfl (lv_at hl 1 rfl) ?_
      refine lv_iload_n hx hb dX5_citizenOf_66 rfl (lv_at hl 2 rfl) ?_
      refine hv_callir (va_runV (As := [.int (nI nc), .int (nI nw)]) (rest := []) ⟨hx, hb, hml, hown, hts⟩ (met_X5_of l G hM nc nw (show 23 + 19 * nc + nw < 137 by omega)) (cwV 2 hts (lw_V q2740 q2742 qs59 q106 q2743) rfl rfl rfl (by decide +kernel) ⟨Nat.le_of_ble_eq_true rfl, Nat.le_of_ble_eq_true rfl⟩) (hv_preV hw pk_X5 hM.1) rfl rfl hl.1 rfl (lv_room (Nat.le_of_ble_eq_true rfl)) dX5_citizenOf_67 ⟨Nat.le_of_ble_eq_true rfl, Nat.le_of_ble_eq_true rfl⟩) hw (fun H locs hw => ?_)
      exact hret rfl hw ⟨by rw [if_pos c18, o_n_nI (show nc < 2 ^ 31 by omega), o_n_nI (show nw < 2 ^ 31 by omega)]; exact (if_pos (by omega)).symm, hM, hF⟩ (Nat.le_of_ble_eq_true rfl) (Nat.le_of_ble_eq_true rfl) dX5_citizenOf_70
    · skip
      refine lv_tableIn (tgt := 71) hx hb dX5_citizenOf_24 (tab_in (n := 5) (show 3 ≤ 5 by omega) (by decide)).1 (tab_in (n := 5) (show 3 ≤ 5 by omega) (by decide)).2 (rfl) (by decide) ?_
      refine lv_aload_n hx hb dX5_citizenOf_71 rfl (lv_at hl 0 rfl) ?_
      refine lv_iload_n hx hb dX5_citizenOf_72 rfl (lv_at hl 1 rfl) ?_
      refine lv_iconst (v := 0) hx hb dX5_citizenOf_73 (by decide) ?_
      refine hv_callir (va_runV (As := [.int (nI nc), .int 0]) (rest := []) ⟨hx, hb, hml, hown, hts⟩ (met_X5_counts l G hM nc (False) (show nc < 6 by omega)) (cwV 2 hts (lw_V q2796 q2798 qs69 q106 q2799) rfl rfl rfl (by decide +kernel) ⟨Nat.le_of_ble_eq_true rfl, Nat.le_of_ble_eq_true rfl⟩) (hv_preV hw pk_X5 hM.1) rfl rfl hl.1 rfl (lv_room (Nat.le_of_ble_eq_true rfl)) dX5_citizenOf_74 ⟨Nat.le_of_ble_eq_true rfl, Nat.le_of_ble_eq_true rfl⟩) hw (fun H locs hw => ?_)
      exact hret rfl hw ⟨by rw [if_pos c18, o_n_nI (show nc < 2 ^ 31 by omega), o_n_nI (show 3 < 2 ^ 31 by omega)]; exact rfl, hM, hF⟩ (Nat.le_of_ble_eq_true rfl) (Nat.le_of_ble_eq_true rfl) dX5_citizenOf_77
    · skip
      refine lv_tableIn (tgt := 78) hx hb dX5_citizenOf_24 (tab_in (n := 5) (show 4 ≤ 5 by omega) (by decide)).1 (tab_in (n := 5) (show 4 ≤ 5 by omega) (by decide)).2 (rfl) (by decide) ?_
      refine lv_aload_n hx hb dX5_citizenOf_78 rfl (lv_at hl 0 rfl) ?_
      refine lv_iload_n hx hb dX5_citizenOf_79 rfl (lv_at hl 1 rfl) ?_
      refine hv_callir (va_runV (As := [.int (nI nc)]) (rest := []) ⟨hx, hb, hml, hown, hts⟩ (met_X5_allUnproved l G hM nc (show nc < 6 by omega)) (cwV 1 hts (lw_V q2809 q2811 qs72 q106 q2812) rfl rfl rfl (by decide +kernel) ⟨Nat.le_of_ble_eq_true rfl, Nat.le_of_ble_eq_true rfl⟩) (hv_preV hw pk_X5 hM.1) rfl rfl hl.1 rfl (lv_room (Nat.le_of_ble_eq_true rfl)) dX5_citizenOf_80 ⟨Nat.le_of_ble_eq_true rfl, Nat.le_of_ble_eq_true rfl⟩) hw (fun H locs hw => ?_)
      exact hret rfl hw ⟨by rw [if_pos c18, o_n_nI (show nc < 2 ^ 31 by omega), o_n_nI (show 4 < 2 ^ 31 by omega)]; exact rfl, hM, hF⟩ (Nat.le_of_ble_eq_true rfl) (Nat.le_of_ble_eq_true rfl) dX5_citizenOf_83
    · skip
      refine lv_tableIn (tgt := 84) hx hb dX5_citizenOf_24 (tab_in (n := 5) (show 5 ≤ 5 by omega) (by decide)).1 (tab_in (n := 5) (show 5 ≤ 5 by omega) (by decide)).2 (rfl) (by decide) ?_
      refine lv_aload_n hx hb dX5_citizenOf_84 rfl (lv_at hl 0 rfl) ?_
      refine lv_iload_n hx hb dX5_citizenOf_85 rfl (lv_at hl 1 rfl) ?_
      refine hv_callir (va_runV (As := [.int (nI nc)]) (rest := []) ⟨hx, hb, hml, hown, hts⟩ (met_X5_carried l G hM nc (hok) (show nc < o_people (σ.2 0) by omega)) (cwV 1 hts (lw_V q2837 q2839 qs76 q106 q2840) rfl rfl rfl (by decide +kernel) ⟨Nat.le_of_ble_eq_true rfl, Nat.le_of_ble_eq_true rfl⟩) (hv_preV hw pk_X5 hM.1) rfl rfl hl.1 rfl (lv_room (Nat.le_of_ble_eq_true rfl)) dX5_citizenOf_86 ⟨Nat.le_of_ble_eq_true rfl, Nat.le_of_ble_eq_true rfl⟩) hw (fun H locs hw => ?_)
      exact hret rfl hw ⟨by rw [if_pos c18, o_n_nI (show nc < 2 ^ 31 by omega), o_n_nI (show 5 < 2 ^ 31 by omega)]; exact rfl, hM, hF⟩ (Nat.le_of_ble_eq_true rfl) (Nat.le_of_ble_eq_true rfl) dX5_citizenOf_89
    · skip
      refine lv_tableOut (tgt := 90) hx hb dX5_citizenOf_24 (Or.inr (by rw [nI_toInt (show nw < 2 ^ 31 by omega)]; omega)) (by decide) ?_
      refine lv_aload_n hx hb dX5_citizenOf_90 rfl (lv_at hl 0 rfl) ?_
      refine lv_iload_n hx hb dX5_citizenOf_91 rfl (lv_at hl 1 rfl) ?_
      refine lv_iconst (v := 3) hx hb dX5_citizenOf_92 (by decide) ?_
      refine lv_iload_n hx hb dX5_citizenOf_93 rfl (lv_at hl 2 rfl) ?_
      refine lv_iadd hx hb dX5_citizenOf_94 ?_
      refine lv_tope (y := nI (3 + nw)) (by simp only [nI, Int32.ofNat_add, Int32.ofNat_mul] <;> rfl) ?_
      refine lv_bipush (v := 6) hx hb dX5_citizenOf_95 (by decide) ?_
      refine lv_isub hx hb dX5_citizenOf_97 ?_
      refine lv_tope (y := nI (nw - 3)) (o_sub6 (by omega)) ?_
      refine hv_callir (va_runV (As := [.int (nI nc), .int (nI (nw - 3))]) (rest := []) ⟨hx, hb, hml, hown, hts⟩ (met_X5_of l G hM nc (nw - 3) (show 23 + 19 * nc + (nw - 3) < 137 by omega)) (cwV 2 hts (lw_V q2740 q2742 qs59 q106 q2743) rfl rfl rfl (by decide +kernel) ⟨Nat.le_of_ble_eq_true rfl, Nat.le_of_ble_eq_true rfl⟩) (hv_preV hw pk_X5 hM.1) rfl rfl hl.1 rfl (lv_room (Nat.le_of_ble_eq_true rfl)) dX5_citizenOf_98 ⟨Nat.le_of_ble_eq_true rfl, Nat.le_of_ble_eq_true rfl⟩) hw (fun H locs hw => ?_)
      exact hret rfl hw ⟨by rw [if_pos c18, o_n_nI (show nc < 2 ^ 31 by omega), o_n_nI (show nw < 2 ^ 31 by omega)]; exact by unfold o_cit; rw [if_neg (by omega), if_neg (by omega), if_neg (by omega), if_neg (by omega)]; rfl, hM, hF⟩ (Nat.le_of_ble_eq_true rfl) (Nat.le_of_ble_eq_true rfl) dX5_citizenOf_101
  · skip
    have c18 : ¬ ((0 ≤ c9 ∧ c9 ≤ σ.2 0 5 - 1) ∧ (0 ≤ w9 ∧ w9 ≤ 8)) := b01_0.mp c18
    refine lv_iconst (v := 0) hx hb dX5_citizenOf_21 (by decide) ?_
    exact hret rfl hw ⟨(if_neg c18).symm, hM, hF⟩ (Nat.le_of_ble_eq_true rfl) (Nat.le_of_ble_eq_true rfl) dX5_citizenOf_22
set_option maxHeartbeats 400000 in
theorem met_X5_carriedOf (l : Launch) (G : hG) {h : hp} {o : Nat} {ma : Nat → Nat} {σ : MS} (hM : isMod G h o ma σ) (c9 : Int32) (i9 : Int32) (w9 : Int32) (hok : okI (σ.2 0)) : mo_Mi l G yX5_carriedOf (ws_ yX5_carriedOf cX5_carriedOf 4 (Option.some Jvm.ClassFile.FieldType.int)) ({ frames := 2, cells := 0, slots := 0, locals := 43 } : Room) [.ref o, .int c9, .int i9, .int w9] h o ma (if (0 ≤ c9 ∧ c9 ≤ σ.2 0 5 - 1) ∧ (0 ≤ i9 ∧ i9 ≤ σ.2 0 (23 + 19 * o_n c9 + 6) - 1) ∧ (0 ≤ w9 ∧ w9 ≤ 1) then σ.2 0 (23 + 19 * o_n c9 + (7 + 2 * o_n i9 + o_n w9)) else 0) (mo_st σ 15 (if (0 ≤ c9 ∧ c9 ≤ σ.2 0 5 - 1) ∧ (0 ≤ i9 ∧ i9 ≤ σ.2 0 (23 + 19 * o_n c9 + 6) - 1) then (if (0 ≤ w9 ∧ w9 ≤ 1) then 0 else 3) else m_gv ((0 ≤ c9 ∧ c9 ≤ σ.2 0 5 - 1)) 1 ((0 ≤ i9 ∧ i9 ≤ σ.2 0 (23 + 19 * o_n c9 + 6) - 1)) 2)) := by
  refine hv_bi .int (Or.inl rfl) (own := RX5) (by decide +kernel) rfl (Nat.le_of_ble_eq_true rfl) (fun p e s m a below meth c ls Q hx hb hml hown hts hnm hret hw hl => ?_)
  have hl : lv_has ls 4 [(0, .ref o), (1, .int c9), (2, .int i9), (3, .int w9)] := hl
  have hF : mo_fr o ma h h := mo_fr.rf
  have hmx : o_many (σ.2 0) ≤ 5 := hok.2.2.1
  have hpx : o_people (σ.2 0) ≤ 6 := hok.2.2.2.2.1
  refine lv_aload_n hx hb dX5_carriedOf_0 rfl (lv_at hl 0 rfl) ?_
  refine lv_aload_n hx hb dX5_carriedOf_1 rfl (lv_at hl 0 rfl) ?_
  refine lv_iload_n hx hb dX5_carriedOf_2 rfl (lv_at hl 1 rfl) ?_
  refine hv_callir (va_runV (As := [.int c9]) (rest := [.ref o]) ⟨hx, hb, hml, hown, hts⟩ (met_X5_isCitizen l G hM c9 ) (cwV 1 hts (lw_V q2736 q2738 qs58 q106 q2739) rfl rfl rfl (by decide +kernel) ⟨Nat.le_of_ble_eq_true rfl, Nat.le_of_ble_eq_true rfl⟩) (hv_preV hw pk_X5 hM.1) rfl rfl hl.1 rfl (lv_room (Nat.le_of_ble_eq_true rfl)) dX5_carriedOf_3 ⟨Nat.le_of_ble_eq_true rfl, Nat.le_of_ble_eq_true rfl⟩) hw (fun H locs hw => ?_)
  refine lv_iconst (v := 1) hx hb dX5_carriedOf_6 (by decide) ?_
  refine lv_aload_n hx hb dX5_carriedOf_7 rfl (lv_at hl 0 rfl) ?_
  refine lv_iload_n hx hb dX5_carriedOf_8 rfl (lv_at hl 1 rfl) ?_
  refine hv_callir (va_runV (As := [.int c9]) (rest := [.int 1, .int (b01 (0 ≤ c9 ∧ c9 ≤ σ.2 0 5 - 1)), .ref o]) ⟨hx, hb, hml, hown, hts⟩ (met_X5_isCitizen l G hM c9 ) (cwV 1 hts (lw_V q2736 q2738 qs58 q106 q2739) rfl rfl rfl (by decide +kernel) ⟨Nat.le_of_ble_eq_true rfl, Nat.le_of_ble_eq_true rfl⟩) (hv_preV hw pk_X5 hM.1) rfl rfl hl.1 rfl (lv_room (Nat.le_of_ble_eq_true rfl)) dX5_carriedOf_9 ⟨Nat.le_of_ble_eq_true rfl, Nat.le_of_ble_eq_true rfl⟩) hw (fun H locs hw => ?_)
  refine lv_if_eq (tgt := 36) hx hb dX5_carriedOf_12 (by decide) (fun c12 => ?_) (fun c12 => ?_)
  · skip
    have c12 : ¬ (0 ≤ c9 ∧ c9 ≤ σ.2 0 5 - 1) := b01_0.mp c12
    refine lv_iconst (v := 0) hx hb dX5_carriedOf_36 (by decide) ?_
    refine lv_iconst (v := 2) hx hb dX5_carriedOf_37 (by decide) ?_
    refine mo_calli (va_runV (As := [.int (b01 (0 ≤ c9 ∧ c9 ≤ σ.2 0 5 - 1)), .int 1, .int 0, .int 2]) (rest := []) ⟨hx, hb, hml, hown, hts⟩ (met_X5_goes l G hM (0 ≤ c9 ∧ c9 ≤ σ.2 0 5 - 1) 1 (False) 2 (by decide) (fun _ => by decide)) (cwV 4 hts (lw_V q2825 q2827 qs75 q106 q2828) rfl rfl rfl (by decide +kernel) ⟨Nat.le_of_ble_eq_true rfl, Nat.le_of_ble_eq_true rfl⟩) (hv_preV hw pk_X5 hM.1) rfl rfl hl.1 rfl (lv_room (Nat.le_of_ble_eq_true rfl)) dX5_carriedOf_38 ⟨Nat.le_of_ble_eq_true rfl, Nat.le_of_ble_eq_true rfl⟩) hw hF (fun hh H locs hM hF hw => ?_)
    refine lv_if_ne (tgt := 46) hx hb dX5_carriedOf_41 (by decide) (fun c41 => ?_) (fun c41 => ?_)
    · skip
      have c41 : (0 ≤ c9 ∧ c9 ≤ σ.2 0 5 - 1) ∧ (False) := b01_n.mp c41
      exact absurd c41.2 (fun z => z)
    · skip
      have c41 : ¬ ((0 ≤ c9 ∧ c9 ≤ σ.2 0 5 - 1) ∧ (False)) := b01_0.mp c41
      refine lv_iconst (v := 0) hx hb dX5_carriedOf_44 (by decide) ?_
      exact hret rfl hw ⟨(if_neg (fun z => c12 z.1)).symm, by rw [if_neg (fun z => c12 z.1), m_gv_f (B := (0 ≤ i9 ∧ i9 ≤ σ.2 0 (23 + 19 * o_n c9 + 6) - 1)) (C := False) c12]; exact hM, hF⟩ (Nat.le_of_ble_eq_true rfl) (Nat.le_of_ble_eq_true rfl) dX5_carriedOf_45
  · skip
    have c12 : 0 ≤ c9 ∧ c9 ≤ σ.2 0 5 - 1 := b01_n.mp c12
    obtain ⟨nc, hnc, rfl⟩ := o_ix c12 (congrArg (· - 1) hok.2.2.2.1) (by omega)
    have ec : o_n (nI nc) = nc := o_n_nI (by omega)
    refine lv_iload_n hx hb dX5_carriedOf_15 rfl (lv_at hl 2 rfl) ?_
    refine lv_iconst (v := 0) hx hb dX5_carriedOf_16 (by decide) ?_
    refine lv_aload_n hx hb dX5_carriedOf_17 rfl (lv_at hl 0 rfl) ?_
    refine lv_iload_n hx hb dX5_carriedOf_18 rfl (lv_at hl 1 rfl) ?_
    refine lv_bipush (v := 6) hx hb dX5_carriedOf_19 (by decide) ?_
    refine hv_callir (va_runV (As := [.int (nI nc), .int 6]) (rest := [.int 0, .int i9, .int 1, .int (b01 (0 ≤ (nI nc) ∧ (nI nc) ≤ σ.2 0 5 - 1)), .ref o]) ⟨hx, hb, hml, hown, hts⟩ (met_X5_of l G hM nc 6 (show 23 + 19 * nc + 6 < 137 by omega)) (cwV 2 hts (lw_V q2740 q2742 qs59 q106 q2743) rfl rfl rfl (by decide +kernel) ⟨Nat.le_of_ble_eq_true rfl, Nat.le_of_ble_eq_true rfl⟩) (hv_preV hw pk_X5 hM.1) rfl rfl hl.1 rfl (lv_room (Nat.le_of_ble_eq_true rfl)) dX5_carriedOf_21 ⟨Nat.le_of_ble_eq_true rfl, Nat.le_of_ble_eq_true rfl⟩) hw (fun H locs hw => ?_)
    refine lv_iconst (v := 1) hx hb dX5_carriedOf_24 (by decide) ?_
    refine lv_isub hx hb dX5_carriedOf_25 ?_
    refine hv_callir (va_runS (As := [.int i9, .int 0, .int ((σ.2 0 (23 + 19 * nc + 6)) - 1)]) (rest := [.int 1, .int (b01 (0 ≤ (nI nc) ∧ (nI nc) ≤ σ.2 0 5 - 1)), .ref o]) ⟨hx, hb, hml, hown, hts⟩ (met_X5_isIn l G i9 0 ((σ.2 0 (23 + 19 * nc + 6)) - 1) ) (va_cwS 3 hts (lw_S q2666 q2667 q106 q2668) rfl rfl rfl (by decide +kernel) ⟨Nat.le_of_ble_eq_true rfl, Nat.le_of_ble_eq_true rfl⟩) (hv_preS hw) rfl rfl hl.1 rfl (lv_room (Nat.le_of_ble_eq_true rfl)) dX5_carriedOf_26 ⟨Nat.le_of_ble_eq_true rfl, Nat.le_of_ble_eq_true rfl⟩) hw (fun H locs hw => ?_)
    refine lv_mat0 (P := (b01 (0 ≤ i9 ∧ i9 ≤ ((σ.2 0 (23 + 19 * nc + 6)) - 1))) = 0) (j := 37) (fun k1 k2 => lv_if_eq (tgt := 36) hx hb dX5_carriedOf_29 (by decide) (fun c => lv_iconst (v := 0) hx hb dX5_carriedOf_36 (by decide) (k1 c)) (fun c => lv_iconst (v := 1) hx hb dX5_carriedOf_32 (by decide) (lv_goto (tgt := 37) hx hb dX5_carriedOf_33 (by decide) (k2 c)))) ?_
    refine lv_tope (y := b01 (0 ≤ i9 ∧ i9 ≤ ((σ.2 0 (23 + 19 * nc + 6)) - 1))) (b01_c b01_n) ?_
    refine lv_iconst (v := 2) hx hb dX5_carriedOf_37 (by decide) ?_
    refine mo_calli (va_runV (As := [.int (b01 (0 ≤ (nI nc) ∧ (nI nc) ≤ σ.2 0 5 - 1)), .int 1, .int (b01 (0 ≤ i9 ∧ i9 ≤ ((σ.2 0 (23 + 19 * nc + 6)) - 1))), .int 2]) (rest := []) ⟨hx, hb, hml, hown, hts⟩ (met_X5_goes l G hM (0 ≤ (nI nc) ∧ (nI nc) ≤ σ.2 0 5 - 1) 1 (0 ≤ i9 ∧ i9 ≤ ((σ.2 0 (23 + 19 * nc + 6)) - 1)) 2 (by decide) (fun _ => by decide)) (cwV 4 hts (lw_V q2825 q2827 qs75 q106 q2828) rfl rfl rfl (by decide +kernel) ⟨Nat.le_of_ble_eq_true rfl, Nat.le_of_ble_eq_true rfl⟩) (hv_preV hw pk_X5 hM.1) rfl rfl hl.1 rfl (lv_room (Nat.le_of_ble_eq_true rfl)) dX5_carriedOf_38 ⟨Nat.le_of_ble_eq_true rfl, Nat.le_of_ble_eq_true rfl⟩) hw hF (fun hh H locs hM hF hw => ?_)
    refine lv_if_ne (tgt := 46) hx hb dX5_carriedOf_41 (by decide) (fun c41 => ?_) (fun c41 => ?_)
    · skip
      have c41 : (0 ≤ (nI nc) ∧ (nI nc) ≤ σ.2 0 5 - 1) ∧ (0 ≤ i9 ∧ i9 ≤ ((σ.2 0 (23 + 19 * nc + 6)) - 1)) := b01_n.mp c41
      have hhd := (hok.2.2.2.2.2.1 nc hnc)
      obtain ⟨ni, hni, rfl⟩ := o_ix c41.2 (congrArg (· - 1) hhd.1) (by omega)
      have hh3 := hhd.2
      refine lv_aload_n hx hb dX5_carriedOf_46 rfl (lv_at hl 0 rfl) ?_
      refine lv_iload_n hx hb dX5_carriedOf_47 rfl (lv_at hl 3 rfl) ?_
      refine lv_iconst (v := 0) hx hb dX5_carriedOf_48 (by decide) ?_
      refine lv_iconst (v := 1) hx hb dX5_carriedOf_49 (by decide) ?_
      refine hv_callir (va_runS (As := [.int w9, .int 0, .int 1]) (rest := [.ref o]) ⟨hx, hb, hml, hown, hts⟩ (met_X5_isIn l G w9 0 1 ) (va_cwS 3 hts (lw_S q2666 q2667 q106 q2668) rfl rfl rfl (by decide +kernel) ⟨Nat.le_of_ble_eq_true rfl, Nat.le_of_ble_eq_true rfl⟩) (hv_preS hw) rfl rfl hl.1 rfl (lv_room (Nat.le_of_ble_eq_true rfl)) dX5_carriedOf_50 ⟨Nat.le_of_ble_eq_true rfl, Nat.le_of_ble_eq_true rfl⟩) hw (fun H locs hw => ?_)
      refine lv_if_eq (tgt := 60) hx hb dX5_carriedOf_53 (by decide) (fun c53 => ?_) (fun c53 => ?_)
      · skip
        have c53 : ¬ (0 ≤ w9 ∧ w9 ≤ 1) := b01_0.mp c53
        refine lv_iconst (v := 3) hx hb dX5_carriedOf_60 (by decide) ?_
        refine mo_put hx hb hts hown hw hM hF 15 (by decide) rfl q2569 rfl rfl rfl rfl dX5_carriedOf_61 (fun hh H locs hM hF hw => ?_)
        refine lv_aload_n hx hb dX5_carriedOf_64 rfl (lv_at hl 0 rfl) ?_
        refine mo_get hx hb hts hown hw hM 15 (by decide) q2569 rfl (v := .int 3) rfl dX5_carriedOf_65 ?_
        refine lv_if_ne (tgt := 87) hx hb dX5_carriedOf_68 (by decide) (fun _ => ?_) (fun c => absurd c (by decide))
        refine lv_iconst (v := 0) hx hb dX5_carriedOf_87 (by decide) ?_
        exact hret rfl hw ⟨(if_neg (fun z => c53 z.2.2)).symm, by rw [ec, if_pos c41, if_neg c53]; rw [mo_st_st] at hM; exact hM, hF⟩ (Nat.le_of_ble_eq_true rfl) (Nat.le_of_ble_eq_true rfl) dX5_carriedOf_88
      · skip
        have c53 : 0 ≤ w9 ∧ w9 ≤ 1 := b01_n.mp c53
        obtain ⟨nw, hnw, rfl⟩ := o_ixl (n := 1) c53 rfl (by decide)
        refine lv_iconst (v := 0) hx hb dX5_carriedOf_56 (by decide) ?_
        refine lv_goto (tgt := 61) hx hb dX5_carriedOf_57 (by decide) ?_
        refine mo_put hx hb hts hown hw hM hF 15 (by decide) rfl q2569 rfl rfl rfl rfl dX5_carriedOf_61 (fun hh H locs hM hF hw => ?_)
        refine lv_aload_n hx hb dX5_carriedOf_64 rfl (lv_at hl 0 rfl) ?_
        refine mo_get hx hb hts hown hw hM 15 (by decide) q2569 rfl (v := .int 0) rfl dX5_carriedOf_65 ?_
        refine lv_if_ne (tgt := 87) hx hb dX5_carriedOf_68 (by decide) (fun c => absurd c (by decide)) (fun _ => ?_)
        refine lv_aload_n hx hb dX5_carriedOf_71 rfl (lv_at hl 0 rfl) ?_
        refine lv_iload_n hx hb dX5_carriedOf_72 rfl (lv_at hl 1 rfl) ?_
        refine lv_bipush (v := 7) hx hb dX5_carriedOf_73 (by decide) ?_
        refine lv_iconst (v := 2) hx hb dX5_carriedOf_75 (by decide) ?_
        refine lv_iload_n hx hb dX5_carriedOf_76 rfl (lv_at hl 2 rfl) ?_
        refine lv_imul hx hb dX5_carriedOf_77 ?_
        refine lv_tope (y := nI (2 * ni)) (by simp only [nI, Int32.ofNat_add, Int32.ofNat_mul] <;> rfl) ?_
        refine lv_iadd hx hb dX5_carriedOf_78 ?_
        refine lv_tope (y := nI (7 + 2 * ni)) (by simp only [nI, Int32.ofNat_add, Int32.ofNat_mul] <;> rfl) ?_
        refine lv_iload_n hx hb dX5_carriedOf_79 rfl (lv_at hl 3 rfl) ?_
        refine lv_iadd hx hb dX5_carriedOf_80 ?_
        refine lv_tope (y := nI (7 + 2 * ni + nw)) (by simp only [nI, Int32.ofNat_add, Int32.ofNat_mul] <;> rfl) ?_
        refine hv_callir (va_runV (As := [.int (nI nc), .int (nI (7 + 2 * ni + nw))]) (rest := []) ⟨hx, hb, hml, hown, hts⟩ (met_X5_of l G hM nc (7 + 2 * ni + nw) (show 23 + 19 * nc + (7 + 2 * ni + nw) < 137 by omega)) (cwV 2 hts (lw_V q2740 q2742 qs59 q106 q2743) rfl rfl rfl (by decide +kernel) ⟨Nat.le_of_ble_eq_true rfl, Nat.le_of_ble_eq_true rfl⟩) (hv_preV hw pk_X5 hM.1) rfl rfl hl.1 rfl (lv_room (Nat.le_of_ble_eq_true rfl)) dX5_carriedOf_81 ⟨Nat.le_of_ble_eq_true rfl, Nat.le_of_ble_eq_true rfl⟩) hw (fun H locs hw => ?_)
        refine lv_goto (tgt := 88) hx hb dX5_carriedOf_84 (by decide) ?_
        exact hret rfl hw ⟨by rw [ec, if_pos ⟨c41.1, c41.2, c53⟩, o_n_nI (show ni < 2 ^ 31 by omega), o_n_nI (show nw < 2 ^ 31 by omega)] <;> rfl, by rw [ec, if_pos c41, if_pos c53]; rw [mo_st_st] at hM; exact hM, hF⟩ (Nat.le_of_ble_eq_true rfl) (Nat.le_of_ble_eq_true rfl) dX5_carriedOf_88
    · skip
      have c41 : ¬ ((0 ≤ (nI nc) ∧ (nI nc) ≤ σ.2 0 5 - 1) ∧ (0 ≤ i9 ∧ i9 ≤ ((σ.2 0 (23 + 19 * nc + 6)) - 1))) := b01_0.mp c41
      refine lv_iconst (v := 0) hx hb dX5_carriedOf_44 (by decide) ?_
      exact hret rfl hw ⟨(if_neg (fun z => c41 ⟨c12, by have z1 := z.2.1; rw [ec] at z1; exact z1⟩)).symm, by rw [if_neg (fun z => c41 ⟨c12, by have z1 := z.2; rw [ec] at z1; exact z1⟩), ec]; exact hM, hF⟩ (Nat.le_of_ble_eq_true rfl) (Nat.le_of_ble_eq_true rfl) dX5_carriedOf_45
set_option maxHeartbeats 400000 in
theorem met_X5_account (l : Launch) (G : hG) {h : hp} {o : Nat} {ma : Nat → Nat} {σ : MS} (hM : isMod G h o ma σ) (x : Int32) (hok : okI (σ.2 0)) : mo_Mi l G yX5_account (ws_ yX5_account cX5_account 2 (Option.some Jvm.ClassFile.FieldType.int)) ({ frames := 3, cells := 0, slots := 0, locals := 68 } : Room) [.ref o, .int x] h o ma (if 0 ≤ x ∧ x ≤ nI 15 then o_acc σ (o_n x) else 0) (mo_st σ 15 (b01 (¬ (0 ≤ x ∧ x ≤ 15)))) := by
  refine hv_bi .int (Or.inl rfl) (own := RX5) (by decide +kernel) rfl (Nat.le_of_ble_eq_true rfl) (fun p e s m a below meth c ls Q hx hb hml hown hts hnm hret hw hl => ?_)
  have hl : lv_has ls 2 [(0, .ref o), (1, .int x)] := hl
  have hF : mo_fr o ma h h := mo_fr.rf
  refine lv_aload_n hx hb dX5_account_0 rfl (lv_at hl 0 rfl) ?_
  refine lv_iload_n hx hb dX5_account_1 rfl (lv_at hl 1 rfl) ?_
  refine lv_iconst (v := 0) hx hb dX5_account_2 (by decide) ?_
  refine lv_bipush (v := 15) hx hb dX5_account_3 (by decide) ?_
  refine hv_callir (va_runS (As := [.int x, .int 0, .int 15]) (rest := [.ref o]) ⟨hx, hb, hml, hown, hts⟩ (met_X5_isIn l G x 0 15 ) (va_cwS 3 hts (lw_S q2666 q2667 q106 q2668) rfl rfl rfl (by decide +kernel) ⟨Nat.le_of_ble_eq_true rfl, Nat.le_of_ble_eq_true rfl⟩) (hv_preS hw) rfl rfl hl.1 rfl (lv_room (Nat.le_of_ble_eq_true rfl)) dX5_account_5 ⟨Nat.le_of_ble_eq_true rfl, Nat.le_of_ble_eq_true rfl⟩) hw (fun H locs hw => ?_)
  refine lv_mat1 (P := (b01 (0 ≤ x ∧ x ≤ 15)) = 0) (j := 16) (fun k1 k2 => lv_if_eq (tgt := 15) hx hb dX5_account_8 (by decide) (fun c => lv_iconst (v := 1) hx hb dX5_account_15 (by decide) (k1 c)) (fun c => lv_iconst (v := 0) hx hb dX5_account_11 (by decide) (lv_goto (tgt := 16) hx hb dX5_account_12 (by decide) (k2 c)))) ?_
  refine lv_tope (y := b01 (¬ (0 ≤ x ∧ x ≤ 15))) (b01_c b01_0) ?_
  refine mo_put hx hb hts hown hw hM hF 15 (by decide) rfl q2569 rfl rfl rfl rfl dX5_account_16 (fun hh H locs hM hF hw => ?_)
  refine lv_iload_n hx hb dX5_account_19 rfl (lv_at hl 1 rfl) ?_
  by_cases tin : 0 ≤ x ∧ x ≤ nI 15
  · skip
    obtain ⟨tn, htn, rfl⟩ := o_ixl tin rfl (by decide)
    rcases (show 0 ≤ tn ∧ tn ≤ 9 ∨ tn = 10 ∨ tn = 11 ∨ tn = 12 ∨ tn = 13 ∨ tn = 14 ∨ tn = 15 by omega) with tg | rfl | rfl | rfl | rfl | rfl | rfl
    · skip
      refine lv_tableIn (tgt := 100) hx hb dX5_account_20 (tab_in (n := 15) (show tn ≤ 15 by omega) (by decide)).1 (tab_in (n := 15) (show tn ≤ 15 by omega) (by decide)).2 (by rw [tab_at (show tn < 2 ^ 31 by omega)]; rcases (show tn = 0 ∨ tn = 1 ∨ tn = 2 ∨ tn = 3 ∨ tn = 4 ∨ tn = 5 ∨ tn = 6 ∨ tn = 7 ∨ tn = 8 ∨ tn = 9 by omega) with rfl | rfl | rfl | rfl | rfl | rfl | rfl | rfl | rfl | rfl <;> rfl) (by decide) ?_
      refine lv_aload_n hx hb dX5_account_100 rfl (lv_at hl 0 rfl) ?_
      refine mo_get hx hb hts hown hw hM 0 (by decide) q2554 rfl (v := .ref (ma 0)) rfl dX5_account_101 ?_
      refine lv_iload_n hx hb dX5_account_104 rfl (lv_at hl 1 rfl) ?_
      refine mo_ald hx hb hw hM 0 rfl (j := tn) rfl (show tn < 137 by omega) dX5_account_105 ?_
      exact hret rfl hw ⟨by rw [if_pos tin, o_n_nI (show tn < 2 ^ 31 by omega)]; exact (if_pos (show tn < 10 by omega)).symm, hM, hF⟩ (Nat.le_of_ble_eq_true rfl) (Nat.le_of_ble_eq_true rfl) dX5_account_106
    · skip
      refine lv_tableIn (tgt := 107) hx hb dX5_account_20 (tab_in (n := 15) (show 10 ≤ 15 by omega) (by decide)).1 (tab_in (n := 15) (show 10 ≤ 15 by omega) (by decide)).2 (rfl) (by decide) ?_
      refine lv_aload_n hx hb dX5_account_107 rfl (lv_at hl 0 rfl) ?_
      refine lv_iconst (v := 2) hx hb dX5_account_108 (by decide) ?_
      refine hv_callir (va_runV (As := [.int 2]) (rest := []) ⟨hx, hb, hml, hown, hts⟩ (met_X5_sumOf l G hM 2 (hok) (by decide)) (cwV 1 hts (lw_V q2906 q2908 qs80 q106 q2909) rfl rfl rfl (by decide +kernel) ⟨Nat.le_of_ble_eq_true rfl, Nat.le_of_ble_eq_true rfl⟩) (hv_preV hw pk_X5 hM.1) rfl rfl hl.1 rfl (lv_room (Nat.le_of_ble_eq_true rfl)) dX5_account_109 ⟨Nat.le_of_ble_eq_true rfl, Nat.le_of_ble_eq_true rfl⟩) hw (fun H locs hw => ?_)
      exact hret rfl hw ⟨by rw [if_pos tin, o_n_nI (show 10 < 2 ^ 31 by omega)]; exact rfl, hM, hF⟩ (Nat.le_of_ble_eq_true rfl) (Nat.le_of_ble_eq_true rfl) dX5_account_112
    · skip
      refine lv_tableIn (tgt := 113) hx hb dX5_account_20 (tab_in (n := 15) (show 11 ≤ 15 by omega) (by decide)).1 (tab_in (n := 15) (show 11 ≤ 15 by omega) (by decide)).2 (rfl) (by decide) ?_
      refine lv_aload_n hx hb dX5_account_113 rfl (lv_at hl 0 rfl) ?_
      refine lv_iconst (v := 3) hx hb dX5_account_114 (by decide) ?_
      refine hv_callir (va_runV (As := [.int 3]) (rest := []) ⟨hx, hb, hml, hown, hts⟩ (met_X5_sumOf l G hM 3 (hok) (by decide)) (cwV 1 hts (lw_V q2906 q2908 qs80 q106 q2909) rfl rfl rfl (by decide +kernel) ⟨Nat.le_of_ble_eq_true rfl, Nat.le_of_ble_eq_true rfl⟩) (hv_preV hw pk_X5 hM.1) rfl rfl hl.1 rfl (lv_room (Nat.le_of_ble_eq_true rfl)) dX5_account_115 ⟨Nat.le_of_ble_eq_true rfl, Nat.le_of_ble_eq_true rfl⟩) hw (fun H locs hw => ?_)
      exact hret rfl hw ⟨by rw [if_pos tin, o_n_nI (show 11 < 2 ^ 31 by omega)]; exact rfl, hM, hF⟩ (Nat.le_of_ble_eq_true rfl) (Nat.le_of_ble_eq_true rfl) dX5_account_118
    · skip
      refine lv_tableIn (tgt := 119) hx hb dX5_account_20 (tab_in (n := 15) (show 12 ≤ 15 by omega) (by decide)).1 (tab_in (n := 15) (show 12 ≤ 15 by omega) (by decide)).2 (rfl) (by decide) ?_
      refine lv_aload_n hx hb dX5_account_119 rfl (lv_at hl 0 rfl) ?_
      refine lv_iconst (v := 4) hx hb dX5_account_120 (by decide) ?_
      refine hv_callir (va_runV (As := [.int 4]) (rest := []) ⟨hx, hb, hml, hown, hts⟩ (met_X5_sumOf l G hM 4 (hok) (by decide)) (cwV 1 hts (lw_V q2906 q2908 qs80 q106 q2909) rfl rfl rfl (by decide +kernel) ⟨Nat.le_of_ble_eq_true rfl, Nat.le_of_ble_eq_true rfl⟩) (hv_preV hw pk_X5 hM.1) rfl rfl hl.1 rfl (lv_room (Nat.le_of_ble_eq_true rfl)) dX5_account_121 ⟨Nat.le_of_ble_eq_true rfl, Nat.le_of_ble_eq_true rfl⟩) hw (fun H locs hw => ?_)
      exact hret rfl hw ⟨by rw [if_pos tin, o_n_nI (show 12 < 2 ^ 31 by omega)]; exact rfl, hM, hF⟩ (Nat.le_of_ble_eq_true rfl) (Nat.le_of_ble_eq_true rfl) dX5_account_124
    · skip
      refine lv_tableIn (tgt := 125) hx hb dX5_account_20 (tab_in (n := 15) (show 13 ≤ 15 by omega) (by decide)).1 (tab_in (n := 15) (show 13 ≤ 15 by omega) (by decide)).2 (rfl) (by decide) ?_
      refine lv_aload_n hx hb dX5_account_125 rfl (lv_at hl 0 rfl) ?_
      refine lv_bipush (v := 6) hx hb dX5_account_126 (by decide) ?_
      refine hv_callir (va_runV (As := [.int 6]) (rest := []) ⟨hx, hb, hml, hown, hts⟩ (met_X5_sumOf l G hM 6 (hok) (by decide)) (cwV 1 hts (lw_V q2906 q2908 qs80 q106 q2909) rfl rfl rfl (by decide +kernel) ⟨Nat.le_of_ble_eq_true rfl, Nat.le_of_ble_eq_true rfl⟩) (hv_preV hw pk_X5 hM.1) rfl rfl hl.1 rfl (lv_room (Nat.le_of_ble_eq_true rfl)) dX5_account_128 ⟨Nat.le_of_ble_eq_true rfl, Nat.le_of_ble_eq_true rfl⟩) hw (fun H locs hw => ?_)
      exact hret rfl hw ⟨by rw [if_pos tin, o_n_nI (show 13 < 2 ^ 31 by omega)]; exact rfl, hM, hF⟩ (Nat.le_of_ble_eq_true rfl) (Nat.le_of_ble_eq_true rfl) dX5_account_131
    · skip
      refine lv_tableIn (tgt := 132) hx hb dX5_account_20 (tab_in (n := 15) (show 14 ≤ 15 by omega) (by decide)).1 (tab_in (n := 15) (show 14 ≤ 15 by omega) (by decide)).2 (rfl) (by decide) ?_
      refine lv_aload_n hx hb dX5_account_132 rfl (lv_at hl 0 rfl) ?_
      refine mo_get hx hb hts hown hw hM 11 (by decide) q2565 rfl (v := .int (σ.1 11)) rfl dX5_account_133 ?_
      exact hret rfl hw ⟨by rw [if_pos tin, o_n_nI (show 14 < 2 ^ 31 by omega)]; exact rfl, hM, hF⟩ (Nat.le_of_ble_eq_true rfl) (Nat.le_of_ble_eq_true rfl) dX5_account_136
    · skip
      refine lv_tableIn (tgt := 137) hx hb dX5_account_20 (tab_in (n := 15) (show 15 ≤ 15 by omega) (by decide)).1 (tab_in (n := 15) (show 15 ≤ 15 by omega) (by decide)).2 (rfl) (by decide) ?_
      refine lv_aload_n hx hb dX5_account_137 rfl (lv_at hl 0 rfl) ?_
      refine mo_get hx hb hts hown hw hM 5 (by decide) q2559 rfl (v := .int (σ.1 5)) rfl dX5_account_138 ?_
      exact hret rfl hw ⟨by rw [if_pos tin, o_n_nI (show 15 < 2 ^ 31 by omega)]; exact rfl, hM, hF⟩ (Nat.le_of_ble_eq_true rfl) (Nat.le_of_ble_eq_true rfl) dX5_account_141
  · skip
    refine lv_tableOut (tgt := 142) hx hb dX5_account_20 (tab_out (n := 15) tin (by decide)) (by decide) ?_
    refine lv_iconst (v := 0) hx hb dX5_account_142 (by decide) ?_
    exact hret rfl hw ⟨(if_neg (fun z => tin z)).symm, hM, hF⟩ (Nat.le_of_ble_eq_true rfl) (Nat.le_of_ble_eq_true rfl) dX5_account_143
set_option maxHeartbeats 400000 in
theorem met_X5_isBalanced (l : Launch) (G : hG) {h : hp} {o : Nat} {ma : Nat → Nat} {σ : MS} (hM : isMod G h o ma σ)  (hok : okI (σ.2 0)) : mo_Mi l G yX5_isBalanced (ws_ yX5_isBalanced cX5_isBalanced 1 (Option.some Jvm.ClassFile.FieldType.boolean)) ({ frames := 3, cells := 0, slots := 0, locals := 68 } : Room) [.ref o] h o ma (b01 (o_bal (σ.2 0))) (mo_st σ 15 0) := by
  refine hv_bi .boolean (Or.inr (Or.inl rfl)) (own := RX5) (by decide +kernel) rfl (Nat.le_of_ble_eq_true rfl) (fun p e s m a below meth c ls Q hx hb hml hown hts hnm hret hw hl => ?_)
  have hl : lv_has ls 1 [(0, .ref o)] := hl
  have hF : mo_fr o ma h h := mo_fr.rf
  refine lv_aload_n hx hb dX5_isBalanced_0 rfl (lv_at hl 0 rfl) ?_
  refine lv_iconst (v := 0) hx hb dX5_isBalanced_1 (by decide) ?_
  refine mo_put hx hb hts hown hw hM hF 15 (by decide) rfl q2569 rfl rfl rfl rfl dX5_isBalanced_2 (fun hh H locs hM hF hw => ?_)
  refine lv_aload_n hx hb dX5_isBalanced_5 rfl (lv_at hl 0 rfl) ?_
  refine mo_get hx hb hts hown hw hM 0 (by decide) q2554 rfl (v := .ref (ma 0)) rfl dX5_isBalanced_6 ?_
  refine lv_bipush (v := 8) hx hb dX5_isBalanced_9 (by decide) ?_
  refine mo_ald hx hb hw hM 0 rfl (j := 8) rfl (show 8 < 137 by omega) dX5_isBalanced_11 ?_
  refine lv_aload_n hx hb dX5_isBalanced_12 rfl (lv_at hl 0 rfl) ?_
  refine lv_iconst (v := 1) hx hb dX5_isBalanced_13 (by decide) ?_
  refine hv_callir (va_runV (As := [.int 1]) (rest := [.int (σ.2 0 8)]) ⟨hx, hb, hml, hown, hts⟩ (met_X5_sumOf l G hM 1 (hok) (by decide)) (cwV 1 hts (lw_V q2906 q2908 qs80 q106 q2909) rfl rfl rfl (by decide +kernel) ⟨Nat.le_of_ble_eq_true rfl, Nat.le_of_ble_eq_true rfl⟩) (hv_preV hw pk_X5 hM.1) rfl rfl hl.1 rfl (lv_room (Nat.le_of_ble_eq_true rfl)) dX5_isBalanced_14 ⟨Nat.le_of_ble_eq_true rfl, Nat.le_of_ble_eq_true rfl⟩) hw (fun H locs hw => ?_)
  refine lv_aload_n hx hb dX5_isBalanced_17 rfl (lv_at hl 0 rfl) ?_
  refine mo_get hx hb hts hown hw hM 0 (by decide) q2554 rfl (v := .ref (ma 0)) rfl dX5_isBalanced_18 ?_
  refine lv_bipush (v := 7) hx hb dX5_isBalanced_21 (by decide) ?_
  refine mo_ald hx hb hw hM 0 rfl (j := 7) rfl (show 7 < 137 by omega) dX5_isBalanced_23 ?_
  refine lv_iadd hx hb dX5_isBalanced_24 ?_
  refine lv_aload_n hx hb dX5_isBalanced_25 rfl (lv_at hl 0 rfl) ?_
  refine mo_get hx hb hts hown hw hM 0 (by decide) q2554 rfl (v := .ref (ma 0)) rfl dX5_isBalanced_26 ?_
  refine lv_bipush (v := 9) hx hb dX5_isBalanced_29 (by decide) ?_
  refine mo_ald hx hb hw hM 0 rfl (j := 9) rfl (show 9 < 137 by omega) dX5_isBalanced_31 ?_
  refine lv_iadd hx hb dX5_isBalanced_32 ?_
  refine lv_icmp_ne (tgt := 67) hx hb dX5_isBalanced_33 (by decide) (fun c33 => ?_) (fun c33 => ?_)
  · skip
    refine lv_iconst (v := 0) hx hb dX5_isBalanced_67 (by decide) ?_
    exact hret rfl hw ⟨(b01_f (fun z => c33 z.1)).symm, hM, hF⟩ (Nat.le_of_ble_eq_true rfl) (Nat.le_of_ble_eq_true rfl) dX5_isBalanced_68
  · skip
    refine lv_aload_n hx hb dX5_isBalanced_36 rfl (lv_at hl 0 rfl) ?_
    refine lv_iconst (v := 3) hx hb dX5_isBalanced_37 (by decide) ?_
    refine hv_callir (va_runV (As := [.int 3]) (rest := []) ⟨hx, hb, hml, hown, hts⟩ (met_X5_sumOf l G hM 3 (hok) (by decide)) (cwV 1 hts (lw_V q2906 q2908 qs80 q106 q2909) rfl rfl rfl (by decide +kernel) ⟨Nat.le_of_ble_eq_true rfl, Nat.le_of_ble_eq_true rfl⟩) (hv_preV hw pk_X5 hM.1) rfl rfl hl.1 rfl (lv_room (Nat.le_of_ble_eq_true rfl)) dX5_isBalanced_38 ⟨Nat.le_of_ble_eq_true rfl, Nat.le_of_ble_eq_true rfl⟩) hw (fun H locs hw => ?_)
    refine lv_aload_n hx hb dX5_isBalanced_41 rfl (lv_at hl 0 rfl) ?_
    refine lv_iconst (v := 4) hx hb dX5_isBalanced_42 (by decide) ?_
    refine hv_callir (va_runV (As := [.int 4]) (rest := [.int (o_sum (σ.2 0) 3 (o_people (σ.2 0)))]) ⟨hx, hb, hml, hown, hts⟩ (met_X5_sumOf l G hM 4 (hok) (by decide)) (cwV 1 hts (lw_V q2906 q2908 qs80 q106 q2909) rfl rfl rfl (by decide +kernel) ⟨Nat.le_of_ble_eq_true rfl, Nat.le_of_ble_eq_true rfl⟩) (hv_preV hw pk_X5 hM.1) rfl rfl hl.1 rfl (lv_room (Nat.le_of_ble_eq_true rfl)) dX5_isBalanced_43 ⟨Nat.le_of_ble_eq_true rfl, Nat.le_of_ble_eq_true rfl⟩) hw (fun H locs hw => ?_)
    refine lv_iadd hx hb dX5_isBalanced_46 ?_
    refine lv_aload_n hx hb dX5_isBalanced_47 rfl (lv_at hl 0 rfl) ?_
    refine mo_get hx hb hts hown hw hM 0 (by decide) q2554 rfl (v := .ref (ma 0)) rfl dX5_isBalanced_48 ?_
    refine lv_bipush (v := 7) hx hb dX5_isBalanced_51 (by decide) ?_
    refine mo_ald hx hb hw hM 0 rfl (j := 7) rfl (show 7 < 137 by omega) dX5_isBalanced_53 ?_
    refine lv_aload_n hx hb dX5_isBalanced_54 rfl (lv_at hl 0 rfl) ?_
    refine lv_iconst (v := 2) hx hb dX5_isBalanced_55 (by decide) ?_
    refine hv_callir (va_runV (As := [.int 2]) (rest := [.int (σ.2 0 7), .int ((o_sum (σ.2 0) 3 (o_people (σ.2 0))) + (o_sum (σ.2 0) 4 (o_people (σ.2 0))))]) ⟨hx, hb, hml, hown, hts⟩ (met_X5_sumOf l G hM 2 (hok) (by decide)) (cwV 1 hts (lw_V q2906 q2908 qs80 q106 q2909) rfl rfl rfl (by decide +kernel) ⟨Nat.le_of_ble_eq_true rfl, Nat.le_of_ble_eq_true rfl⟩) (hv_preV hw pk_X5 hM.1) rfl rfl hl.1 rfl (lv_room (Nat.le_of_ble_eq_true rfl)) dX5_isBalanced_56 ⟨Nat.le_of_ble_eq_true rfl, Nat.le_of_ble_eq_true rfl⟩) hw (fun H locs hw => ?_)
    refine lv_iadd hx hb dX5_isBalanced_59 ?_
    refine lv_mat1 (P := ((o_sum (σ.2 0) 3 (o_people (σ.2 0))) + (o_sum (σ.2 0) 4 (o_people (σ.2 0)))) = ((σ.2 0 7) + (o_sum (σ.2 0) 2 (o_people (σ.2 0))))) (j := 68) (fun k1 k2 => lv_icmp_ne (tgt := 67) hx hb dX5_isBalanced_60 (by decide) (fun c => lv_iconst (v := 0) hx hb dX5_isBalanced_67 (by decide) (k2 c)) (fun c => lv_iconst (v := 1) hx hb dX5_isBalanced_63 (by decide) (lv_goto (tgt := 68) hx hb dX5_isBalanced_64 (by decide) (k1 c)))) ?_
    exact hret (b01_z _) hw ⟨b01_c ⟨fun z => ⟨c33, z⟩, fun z => z.2⟩, hM, hF⟩ (Nat.le_of_ble_eq_true rfl) (Nat.le_of_ble_eq_true rfl) dX5_isBalanced_68
set_option maxHeartbeats 400000 in
theorem met_X5_undo (l : Launch) (G : hG) {h : hp} {o : Nat} {ma : Nat → Nat} {σ : MS} (hM : isMod G h o ma σ)  (h5 : σ.1 5 = nI (o_n (σ.1 5)) ∧ o_n (σ.1 5) ≤ 8) : mo_Mi l G yX5_undo (ws_ yX5_undo cX5_undo 1 (Option.some Jvm.ClassFile.FieldType.int)) ({ frames := 1, cells := 0, slots := 0, locals := 24 } : Room) [.ref o] h o ma (nI (o_n (σ.1 5) - 1)) (m_und σ) := by
  refine hv_bi .int (Or.inl rfl) (own := RX5) (by decide +kernel) rfl (Nat.le_of_ble_eq_true rfl) (fun p e s m a below meth c ls Q hx hb hml hown hts hnm hret hw hl => ?_)
  have hl : lv_has ls 1 [(0, .ref o)] := hl
  have hF : mo_fr o ma h h := mo_fr.rf
  have hn8 := h5.2
  refine lv_aload_n hx hb dX5_undo_0 rfl (lv_at hl 0 rfl) ?_
  refine lv_aload_n hx hb dX5_undo_1 rfl (lv_at hl 0 rfl) ?_
  refine mo_get hx hb hts hown hw hM 5 (by decide) q2559 rfl (v := .int (σ.1 5)) rfl dX5_undo_2 ?_
  refine lv_tope (y := nI (o_n (σ.1 5))) (h5.1) ?_
  refine lv_mat1 (P := (nI (o_n (σ.1 5))) = 0) (j := 13) (fun k1 k2 => lv_if_ne (tgt := 12) hx hb dX5_undo_5 (by decide) (fun c => lv_iconst (v := 0) hx hb dX5_undo_12 (by decide) (k2 c)) (fun c => lv_iconst (v := 1) hx hb dX5_undo_8 (by decide) (lv_goto (tgt := 13) hx hb dX5_undo_9 (by decide) (k1 c)))) ?_
  refine mo_put hx hb hts hown hw hM hF 15 (by decide) rfl q2569 rfl rfl rfl rfl dX5_undo_13 (fun hh H locs hM hF hw => ?_)
  refine lv_aload_n hx hb dX5_undo_16 rfl (lv_at hl 0 rfl) ?_
  refine mo_get hx hb hts hown hw hM 5 (by decide) q2559 rfl (v := .int (σ.1 5)) rfl dX5_undo_17 ?_
  refine lv_tope (y := nI (o_n (σ.1 5))) (h5.1) ?_
  refine lv_if_le (tgt := 53) hx hb dX5_undo_20 (by decide) (fun c20 => ?_) (fun c20 => ?_)
  · skip
    have hp0 : o_n (σ.1 5) = 0 := by have := cmp_le (b := 0) c20 rfl rfl (by omega) (by omega); omega
    refine lv_aload_n hx hb dX5_undo_53 rfl (lv_at hl 0 rfl) ?_
    refine mo_get hx hb hts hown hw hM 5 (by decide) q2559 rfl (v := .int (σ.1 5)) rfl dX5_undo_54 ?_
    refine lv_tope (y := nI (o_n (σ.1 5))) (h5.1) ?_
    exact hret rfl hw ⟨by rw [hp0], by unfold m_und; rw [if_pos hp0]; rw [b01_t (show nI (o_n (σ.1 5)) = 0 by rw [hp0]; rfl)] at hM; exact hM, hF⟩ (Nat.le_of_ble_eq_true rfl) (Nat.le_of_ble_eq_true rfl) dX5_undo_57
  · skip
    have hp0 : 0 < o_n (σ.1 5) := cmp_nle (b := 0) c20 rfl rfl (by omega) (by omega)
    have hM : isMod G hh o ma (mo_st σ 15 0) := by have h9 := hM; rw [b01_f (show ¬ nI (o_n (σ.1 5)) = 0 from fun z => absurd (cmp_eq (b := 0) z rfl rfl (by omega) (by omega)) (by omega))] at h9; exact h9
    refine lv_aload_n hx hb dX5_undo_23 rfl (lv_at hl 0 rfl) ?_
    refine lv_dup hx hb dX5_undo_24 rfl ?_
    refine mo_get hx hb hts hown hw hM 5 (by decide) q2559 rfl (v := .int (σ.1 5)) rfl dX5_undo_25 ?_
    refine lv_tope (y := nI (o_n (σ.1 5))) (h5.1) ?_
    refine lv_iconst (v := 1) hx hb dX5_undo_28 (by decide) ?_
    refine lv_isub hx hb dX5_undo_29 ?_
    refine lv_tope (y := nI (o_n (σ.1 5) - 1)) (nI_pm (by have := cmp_nle (b := 0) c20 rfl rfl (by omega) (by omega); omega)) ?_
    refine mo_put hx hb hts hown hw hM hF 5 (by decide) rfl q2559 rfl rfl rfl rfl dX5_undo_30 (fun hh H locs hM hF hw => ?_)
    refine lv_aload_n hx hb dX5_undo_33 rfl (lv_at hl 0 rfl) ?_
    refine mo_get hx hb hts hown hw hM 3 (by decide) q2557 rfl (v := .ref (ma 3)) rfl dX5_undo_34 ?_
    refine lv_aload_n hx hb dX5_undo_37 rfl (lv_at hl 0 rfl) ?_
    refine mo_get hx hb hts hown hw hM 5 (by decide) q2559 rfl (v := .int (nI (o_n (σ.1 5) - 1))) rfl dX5_undo_38 ?_
    refine lv_sipush (v := 137) hx hb dX5_undo_41 (by decide) ?_
    refine lv_imul hx hb dX5_undo_44 ?_
    refine lv_tope (y := nI ((o_n (σ.1 5) - 1) * 137)) (by simp only [nI, Int32.ofNat_add, Int32.ofNat_mul] <;> rfl) ?_
    refine lv_aload_n hx hb dX5_undo_45 rfl (lv_at hl 0 rfl) ?_
    refine mo_get hx hb hts hown hw hM 0 (by decide) q2554 rfl (v := .ref (ma 0)) rfl dX5_undo_46 ?_
    refine lv_iconst (v := 0) hx hb dX5_undo_49 (by decide) ?_
    refine mo_callv (va_runS (As := [.ref (ma 3), .int (nI ((o_n (σ.1 5) - 1) * 137)), .ref (ma 0), .int 0]) (rest := []) ⟨hx, hb, hml, hown, hts⟩ (met_X5_copies l G hM 3 0 ((o_n (σ.1 5) - 1) * 137) 0 rfl rfl (by decide) (show ((o_n (σ.1 5) - 1) * 137) + 137 ≤ 1096 by omega) (show 0 + 137 ≤ 137 by omega) (by decide) (by decide)) (va_cwS 4 hts (lw_S q2639 q2640 q106 q2641) rfl rfl rfl (by decide +kernel) ⟨Nat.le_of_ble_eq_true rfl, Nat.le_of_ble_eq_true rfl⟩) (hv_preS hw) rfl rfl hl.1 rfl (lv_room (Nat.le_of_ble_eq_true rfl)) dX5_undo_50 ⟨Nat.le_of_ble_eq_true rfl, Nat.le_of_ble_eq_true rfl⟩) hw hF (fun hh H locs hM hF hw => ?_)
    refine lv_aload_n hx hb dX5_undo_53 rfl (lv_at hl 0 rfl) ?_
    refine mo_get hx hb hts hown hw hM 5 (by decide) q2559 rfl (v := .int (nI (o_n (σ.1 5) - 1))) rfl dX5_undo_54 ?_
    exact hret rfl hw ⟨rfl, by unfold m_und; rw [if_neg (show ¬ o_n (σ.1 5) = 0 by omega)]; exact hM, hF⟩ (Nat.le_of_ble_eq_true rfl) (Nat.le_of_ble_eq_true rfl) dX5_undo_57
set_option maxHeartbeats 400000 in
theorem met_X5_restore (l : Launch) (G : hG) {h : hp} {o : Nat} {ma : Nat → Nat} {σ : MS} (hM : isMod G h o ma σ)  : mo_Mi l G yX5_restore (ws_ yX5_restore cX5_restore 1 (Option.some Jvm.ClassFile.FieldType.int)) ({ frames := 1, cells := 0, slots := 0, locals := 24 } : Room) [.ref o] h o ma (if σ.1 4 = 0 then 0 else (mo_st (mo_cp (mo_st σ 15 0) 2 0 0 0) 5 0).2 0 0) (m_rst σ) := by
  refine hv_bi .int (Or.inl rfl) (own := RX5) (by decide +kernel) rfl (Nat.le_of_ble_eq_true rfl) (fun p e s m a below meth c ls Q hx hb hml hown hts hnm hret hw hl => ?_)
  have hl : lv_has ls 1 [(0, .ref o)] := hl
  have hF : mo_fr o ma h h := mo_fr.rf
  refine lv_aload_n hx hb dX5_restore_0 rfl (lv_at hl 0 rfl) ?_
  refine lv_aload_n hx hb dX5_restore_1 rfl (lv_at hl 0 rfl) ?_
  refine mo_get hx hb hts hown hw hM 4 (by decide) q2558 rfl (v := .int (σ.1 4)) rfl dX5_restore_2 ?_
  refine lv_mat1 (P := (σ.1 4) = 0) (j := 13) (fun k1 k2 => lv_if_eq (tgt := 12) hx hb dX5_restore_5 (by decide) (fun c => lv_iconst (v := 1) hx hb dX5_restore_12 (by decide) (k1 c)) (fun c => lv_iconst (v := 0) hx hb dX5_restore_8 (by decide) (lv_goto (tgt := 13) hx hb dX5_restore_9 (by decide) (k2 c)))) ?_
  refine mo_put hx hb hts hown hw hM hF 15 (by decide) rfl q2569 rfl rfl rfl rfl dX5_restore_13 (fun hh H locs hM hF hw => ?_)
  refine lv_aload_n hx hb dX5_restore_16 rfl (lv_at hl 0 rfl) ?_
  refine mo_get hx hb hts hown hw hM 4 (by decide) q2558 rfl (v := .int (σ.1 4)) rfl dX5_restore_17 ?_
  refine lv_if_eq (tgt := 41) hx hb dX5_restore_20 (by decide) (fun c20 => ?_) (fun c20 => ?_)
  · skip
    refine lv_aload_n hx hb dX5_restore_41 rfl (lv_at hl 0 rfl) ?_
    refine mo_get hx hb hts hown hw hM 4 (by decide) q2558 rfl (v := .int (σ.1 4)) rfl dX5_restore_42 ?_
    refine lv_if_eq (tgt := 57) hx hb dX5_restore_45 (by decide) (fun c45 => ?_) (fun c45 => absurd (c20) c45)
    refine lv_iconst (v := 0) hx hb dX5_restore_57 (by decide) ?_
    exact hret rfl hw ⟨(if_pos c20).symm, by unfold m_rst; rw [if_pos c20]; rw [b01_t c20] at hM; exact hM, hF⟩ (Nat.le_of_ble_eq_true rfl) (Nat.le_of_ble_eq_true rfl) dX5_restore_58
  · skip
    have hM : isMod G hh o ma (mo_st σ 15 0) := by have h9 := hM; rw [b01_f c20] at h9; exact h9
    refine lv_aload_n hx hb dX5_restore_23 rfl (lv_at hl 0 rfl) ?_
    refine mo_get hx hb hts hown hw hM 2 (by decide) q2556 rfl (v := .ref (ma 2)) rfl dX5_restore_24 ?_
    refine lv_iconst (v := 0) hx hb dX5_restore_27 (by decide) ?_
    refine lv_aload_n hx hb dX5_restore_28 rfl (lv_at hl 0 rfl) ?_
    refine mo_get hx hb hts hown hw hM 0 (by decide) q2554 rfl (v := .ref (ma 0)) rfl dX5_restore_29 ?_
    refine lv_iconst (v := 0) hx hb dX5_restore_32 (by decide) ?_
    refine mo_callv (va_runS (As := [.ref (ma 2), .int 0, .ref (ma 0), .int 0]) (rest := []) ⟨hx, hb, hml, hown, hts⟩ (met_X5_copies l G hM 2 0 0 0 rfl rfl (by decide) (show 0 + 137 ≤ 137 by omega) (show 0 + 137 ≤ 137 by omega) (by decide) (by decide)) (va_cwS 4 hts (lw_S q2639 q2640 q106 q2641) rfl rfl rfl (by decide +kernel) ⟨Nat.le_of_ble_eq_true rfl, Nat.le_of_ble_eq_true rfl⟩) (hv_preS hw) rfl rfl hl.1 rfl (lv_room (Nat.le_of_ble_eq_true rfl)) dX5_restore_33 ⟨Nat.le_of_ble_eq_true rfl, Nat.le_of_ble_eq_true rfl⟩) hw hF (fun hh H locs hM hF hw => ?_)
    refine lv_aload_n hx hb dX5_restore_36 rfl (lv_at hl 0 rfl) ?_
    refine lv_iconst (v := 0) hx hb dX5_restore_37 (by decide) ?_
    refine mo_put hx hb hts hown hw hM hF 5 (by decide) rfl q2559 rfl rfl rfl rfl dX5_restore_38 (fun hh H locs hM hF hw => ?_)
    refine lv_aload_n hx hb dX5_restore_41 rfl (lv_at hl 0 rfl) ?_
    refine mo_get hx hb hts hown hw hM 4 (by decide) q2558 rfl (v := .int (σ.1 4)) rfl dX5_restore_42 ?_
    refine lv_if_eq (tgt := 57) hx hb dX5_restore_45 (by decide) (fun c45 => absurd c45 (c20)) (fun c45 => ?_)
    refine lv_aload_n hx hb dX5_restore_48 rfl (lv_at hl 0 rfl) ?_
    refine mo_get hx hb hts hown hw hM 0 (by decide) q2554 rfl (v := .ref (ma 0)) rfl dX5_restore_49 ?_
    refine lv_iconst (v := 0) hx hb dX5_restore_52 (by decide) ?_
    refine mo_ald hx hb hw hM 0 rfl (j := 0) rfl (show 0 < 137 by omega) dX5_restore_53 ?_
    refine lv_goto (tgt := 58) hx hb dX5_restore_54 (by decide) ?_
    exact hret rfl hw ⟨(if_neg c20).symm, by unfold m_rst; rw [if_neg c20]; exact hM, hF⟩ (Nat.le_of_ble_eq_true rfl) (Nat.le_of_ble_eq_true rfl) dX5_restore_58
set_option maxHeartbeats 400000 in
theorem met_X5_reason (l : Launch) (G : hG) {h : hp} {o : Nat} {ma : Nat → Nat} {σ : MS} (hM : isMod G h o ma σ) (ca : Prop) [Decidable ca] (dt : Prop) [Decidable dt] : mo_Mi l G yX5_reason (ws_ yX5_reason cX5_reason 4 (Option.some Jvm.ClassFile.FieldType.int)) ({ frames := 0, cells := 0, slots := 0, locals := 0 } : Room) [.ref o, .int (b01 ca), .int (b01 dt)] h o ma (if m_rsn σ ca = 0 then 0 else if dt then m_dtl σ ca else m_rsn σ ca) (mo_st σ 15 (b01 (m_rsn σ ca = 0))) := by
  refine hv_bi .int (Or.inl rfl) (own := RX5) (by decide +kernel) rfl (Nat.le_of_ble_eq_true rfl) (fun p e s m a below meth c ls Q hx hb hml hown hts hnm hret hw hl => ?_)
  have hl : lv_has ls 4 [(0, .ref o), (1, .int (b01 ca)), (2, .int (b01 dt))] := hl
  have hF : mo_fr o ma h h := mo_fr.rf
  refine lv_iload_n hx hb dX5_reason_0 rfl (lv_at hl 1 rfl) ?_
  refine lv_if_eq (tgt := 11) hx hb dX5_reason_1 (by decide) (fun c1 => ?_) (fun c1 => ?_)
  · skip
    have c1 : ¬ (ca) := b01_0.mp c1
    refine lv_aload_n hx hb dX5_reason_11 rfl (lv_at hl 0 rfl) ?_
    refine mo_get hx hb hts hown hw hM 6 (by decide) q2560 rfl (v := .int (σ.1 6)) rfl dX5_reason_12 ?_
    refine lv_tope (y := m_rsn σ ca) (if_neg c1).symm ?_
    refine lv_istore_n (lv' := [(3, .int (m_rsn σ ca)), (0, .ref o), (1, .int (b01 ca)), (2, .int (b01 dt))]) hx hb dX5_reason_15 rfl hl (by decide) rfl (fun ls hl => ?_)
    refine lv_aload_n hx hb dX5_reason_16 rfl (lv_at hl 1 rfl) ?_
    refine lv_iload_n hx hb dX5_reason_17 rfl (lv_at hl 0 rfl) ?_
    refine lv_mat1 (P := (m_rsn σ ca) = 0) (j := 26) (fun k1 k2 => lv_if_ne (tgt := 25) hx hb dX5_reason_18 (by decide) (fun c => lv_iconst (v := 0) hx hb dX5_reason_25 (by decide) (k2 c)) (fun c => lv_iconst (v := 1) hx hb dX5_reason_21 (by decide) (lv_goto (tgt := 26) hx hb dX5_reason_22 (by decide) (k1 c)))) ?_
    refine mo_put hx hb hts hown hw hM hF 15 (by decide) rfl q2569 rfl rfl rfl rfl dX5_reason_26 (fun hh H locs hM hF hw => ?_)
    refine lv_iload_n hx hb dX5_reason_29 rfl (lv_at hl 0 rfl) ?_
    refine lv_if_ne (tgt := 37) hx hb dX5_reason_30 (by decide) (fun c30 => ?_) (fun c30 => ?_)
    · skip
      refine lv_iload_n hx hb dX5_reason_37 rfl (lv_at hl 3 rfl) ?_
      refine lv_if_eq (tgt := 59) hx hb dX5_reason_38 (by decide) (fun c38 => ?_) (fun c38 => ?_)
      · skip
        have c38 : ¬ (dt) := b01_0.mp c38
        refine lv_iload_n hx hb dX5_reason_59 rfl (lv_at hl 0 rfl) ?_
        exact hret rfl hw ⟨((if_neg c30).trans (if_neg c38)).symm, hM, hF⟩ (Nat.le_of_ble_eq_true rfl) (Nat.le_of_ble_eq_true rfl) dX5_reason_60
      · skip
        have c38 : dt := b01_n.mp c38
        refine lv_iload_n hx hb dX5_reason_41 rfl (lv_at hl 2 rfl) ?_
        refine lv_if_eq (tgt := 52) hx hb dX5_reason_42 (by decide) (fun c42 => ?_) (fun c42 => absurd (b01_f c1) c42)
        have c42 : ¬ (ca) := b01_0.mp c42
        refine lv_aload_n hx hb dX5_reason_52 rfl (lv_at hl 1 rfl) ?_
        refine mo_get hx hb hts hown hw hM 7 (by decide) q2561 rfl (v := .int (σ.1 7)) rfl dX5_reason_53 ?_
        refine lv_goto (tgt := 60) hx hb dX5_reason_56 (by decide) ?_
        exact hret rfl hw ⟨by rw [if_neg c30, if_pos c38]; unfold m_dtl; exact (if_neg c1).symm, hM, hF⟩ (Nat.le_of_ble_eq_true rfl) (Nat.le_of_ble_eq_true rfl) dX5_reason_60
    · skip
      refine lv_iconst (v := 0) hx hb dX5_reason_33 (by decide) ?_
      refine lv_goto (tgt := 60) hx hb dX5_reason_34 (by decide) ?_
      exact hret rfl hw ⟨(if_pos c30).symm, hM, hF⟩ (Nat.le_of_ble_eq_true rfl) (Nat.le_of_ble_eq_true rfl) dX5_reason_60
  · skip
    have c1 : ca := b01_n.mp c1
    refine lv_aload_n hx hb dX5_reason_4 rfl (lv_at hl 0 rfl) ?_
    refine mo_get hx hb hts hown hw hM 8 (by decide) q2562 rfl (v := .int (σ.1 8)) rfl dX5_reason_5 ?_
    refine lv_goto (tgt := 15) hx hb dX5_reason_8 (by decide) ?_
    refine lv_tope (y := m_rsn σ ca) (if_pos c1).symm ?_
    refine lv_istore_n (lv' := [(3, .int (m_rsn σ ca)), (0, .ref o), (1, .int (b01 ca)), (2, .int (b01 dt))]) hx hb dX5_reason_15 rfl hl (by decide) rfl (fun ls hl => ?_)
    refine lv_aload_n hx hb dX5_reason_16 rfl (lv_at hl 1 rfl) ?_
    refine lv_iload_n hx hb dX5_reason_17 rfl (lv_at hl 0 rfl) ?_
    refine lv_mat1 (P := (m_rsn σ ca) = 0) (j := 26) (fun k1 k2 => lv_if_ne (tgt := 25) hx hb dX5_reason_18 (by decide) (fun c => lv_iconst (v := 0) hx hb dX5_reason_25 (by decide) (k2 c)) (fun c => lv_iconst (v := 1) hx hb dX5_reason_21 (by decide) (lv_goto (tgt := 26) hx hb dX5_reason_22 (by decide) (k1 c)))) ?_
    refine mo_put hx hb hts hown hw hM hF 15 (by decide) rfl q2569 rfl rfl rfl rfl dX5_reason_26 (fun hh H locs hM hF hw => ?_)
    refine lv_iload_n hx hb dX5_reason_29 rfl (lv_at hl 0 rfl) ?_
    refine lv_if_ne (tgt := 37) hx hb dX5_reason_30 (by decide) (fun c30 => ?_) (fun c30 => ?_)
    · skip
      refine lv_iload_n hx hb dX5_reason_37 rfl (lv_at hl 3 rfl) ?_
      refine lv_if_eq (tgt := 59) hx hb dX5_reason_38 (by decide) (fun c38 => ?_) (fun c38 => ?_)
      · skip
        have c38 : ¬ (dt) := b01_0.mp c38
        refine lv_iload_n hx hb dX5_reason_59 rfl (lv_at hl 0 rfl) ?_
        exact hret rfl hw ⟨((if_neg c30).trans (if_neg c38)).symm, hM, hF⟩ (Nat.le_of_ble_eq_true rfl) (Nat.le_of_ble_eq_true rfl) dX5_reason_60
      · skip
        have c38 : dt := b01_n.mp c38
        refine lv_iload_n hx hb dX5_reason_41 rfl (lv_at hl 2 rfl) ?_
        refine lv_if_eq (tgt := 52) hx hb dX5_reason_42 (by decide) (fun c42 => absurd c42 (by rw [b01_t c1]; decide)) (fun c42 => ?_)
        have c42 : ca := b01_n.mp c42
        refine lv_aload_n hx hb dX5_reason_45 rfl (lv_at hl 1 rfl) ?_
        refine mo_get hx hb hts hown hw hM 9 (by decide) q2563 rfl (v := .int (σ.1 9)) rfl dX5_reason_46 ?_
        refine lv_goto (tgt := 60) hx hb dX5_reason_49 (by decide) ?_
        exact hret rfl hw ⟨by rw [if_neg c30, if_pos c38]; unfold m_dtl; exact (if_pos c1).symm, hM, hF⟩ (Nat.le_of_ble_eq_true rfl) (Nat.le_of_ble_eq_true rfl) dX5_reason_60
    · skip
      refine lv_iconst (v := 0) hx hb dX5_reason_33 (by decide) ?_
      refine lv_goto (tgt := 60) hx hb dX5_reason_34 (by decide) ?_
      exact hret rfl hw ⟨(if_pos c30).symm, hM, hF⟩ (Nat.le_of_ble_eq_true rfl) (Nat.le_of_ble_eq_true rfl) dX5_reason_60
set_option maxHeartbeats 400000 in
theorem met_X5_begin (l : Launch) (G : hG) {h : hp} (x9 : Nat) (hy1 : x9 ≤ 8) : mo_Ri l G yX5_begin (ws_ yX5_begin cX5_begin 1 (Option.some Jvm.ClassFile.FieldType.int)) ({ frames := 0, cells := 0, slots := 0, locals := 0 } : Room) [.int (nI x9)] h (nI (o_beg x9)) := by
  refine hv_bi .int (Or.inl rfl) (own := RX5) (by decide +kernel) rfl (Nat.le_of_ble_eq_true rfl) (fun p e s m a below meth c ls Q hx hb hml hown hts hnm hret hw hl => ?_)
  have hl : lv_has ls 1 [(0, .int (nI x9))] := hl
  refine lv_iload_n hx hb dX5_begin_0 rfl (lv_at hl 0 rfl) ?_
  rcases (show x9 = 0 ∨ x9 = 1 ∨ x9 = 2 ∨ x9 = 3 ∨ x9 = 4 ∨ x9 = 5 ∨ x9 = 6 ∨ x9 = 7 ∨ 7 < x9 by omega) with rfl | rfl | rfl | rfl | rfl | rfl | rfl | rfl | tg
  · skip
    refine lv_tableIn (tgt := 48) hx hb dX5_begin_1 (tab_in (n := 7) (show 0 ≤ 7 by omega) (by decide)).1 (tab_in (n := 7) (show 0 ≤ 7 by omega) (by decide)).2 (rfl) (by decide) ?_
    refine lv_iconst (v := 0) hx hb dX5_begin_48 (by decide) ?_
    exact hret rfl hw ⟨rfl, rfl⟩ (Nat.le_of_ble_eq_true rfl) (Nat.le_of_ble_eq_true rfl) dX5_begin_49
  · skip
    refine lv_tableIn (tgt := 50) hx hb dX5_begin_1 (tab_in (n := 7) (show 1 ≤ 7 by omega) (by decide)).1 (tab_in (n := 7) (show 1 ≤ 7 by omega) (by decide)).2 (rfl) (by decide) ?_
    refine lv_iconst (v := 4) hx hb dX5_begin_50 (by decide) ?_
    exact hret rfl hw ⟨rfl, rfl⟩ (Nat.le_of_ble_eq_true rfl) (Nat.le_of_ble_eq_true rfl) dX5_begin_51
  · skip
    refine lv_tableIn (tgt := 52) hx hb dX5_begin_1 (tab_in (n := 7) (show 2 ≤ 7 by omega) (by decide)).1 (tab_in (n := 7) (show 2 ≤ 7 by omega) (by decide)).2 (rfl) (by decide) ?_
    refine lv_bipush (v := 9) hx hb dX5_begin_52 (by decide) ?_
    exact hret rfl hw ⟨rfl, rfl⟩ (Nat.le_of_ble_eq_true rfl) (Nat.le_of_ble_eq_true rfl) dX5_begin_54
  · skip
    refine lv_tableIn (tgt := 55) hx hb dX5_begin_1 (tab_in (n := 7) (show 3 ≤ 7 by omega) (by decide)).1 (tab_in (n := 7) (show 3 ≤ 7 by omega) (by decide)).2 (rfl) (by decide) ?_
    refine lv_bipush (v := 14) hx hb dX5_begin_55 (by decide) ?_
    exact hret rfl hw ⟨rfl, rfl⟩ (Nat.le_of_ble_eq_true rfl) (Nat.le_of_ble_eq_true rfl) dX5_begin_57
  · skip
    refine lv_tableIn (tgt := 58) hx hb dX5_begin_1 (tab_in (n := 7) (show 4 ≤ 7 by omega) (by decide)).1 (tab_in (n := 7) (show 4 ≤ 7 by omega) (by decide)).2 (rfl) (by decide) ?_
    refine lv_bipush (v := 21) hx hb dX5_begin_58 (by decide) ?_
    exact hret rfl hw ⟨rfl, rfl⟩ (Nat.le_of_ble_eq_true rfl) (Nat.le_of_ble_eq_true rfl) dX5_begin_60
  · skip
    refine lv_tableIn (tgt := 61) hx hb dX5_begin_1 (tab_in (n := 7) (show 5 ≤ 7 by omega) (by decide)).1 (tab_in (n := 7) (show 5 ≤ 7 by omega) (by decide)).2 (rfl) (by decide) ?_
    refine lv_bipush (v := 25) hx hb dX5_begin_61 (by decide) ?_
    exact hret rfl hw ⟨rfl, rfl⟩ (Nat.le_of_ble_eq_true rfl) (Nat.le_of_ble_eq_true rfl) dX5_begin_63
  · skip
    refine lv_tableIn (tgt := 64) hx hb dX5_begin_1 (tab_in (n := 7) (show 6 ≤ 7 by omega) (by decide)).1 (tab_in (n := 7) (show 6 ≤ 7 by omega) (by decide)).2 (rfl) (by decide) ?_
    refine lv_bipush (v := 28) hx hb dX5_begin_64 (by decide) ?_
    exact hret rfl hw ⟨rfl, rfl⟩ (Nat.le_of_ble_eq_true rfl) (Nat.le_of_ble_eq_true rfl) dX5_begin_66
  · skip
    refine lv_tableIn (tgt := 67) hx hb dX5_begin_1 (tab_in (n := 7) (show 7 ≤ 7 by omega) (by decide)).1 (tab_in (n := 7) (show 7 ≤ 7 by omega) (by decide)).2 (rfl) (by decide) ?_
    refine lv_bipush (v := 32) hx hb dX5_begin_67 (by decide) ?_
    exact hret rfl hw ⟨rfl, rfl⟩ (Nat.le_of_ble_eq_true rfl) (Nat.le_of_ble_eq_true rfl) dX5_begin_69
  · skip
    refine lv_tableOut (tgt := 70) hx hb dX5_begin_1 (Or.inr (by rw [nI_toInt (show x9 < 2 ^ 31 by omega)]; omega)) (by decide) ?_
    refine lv_bipush (v := 36) hx hb dX5_begin_70 (by decide) ?_
    exact hret rfl hw ⟨congrArg nI (show 36 = o_beg x9 from by unfold o_beg; rw [if_neg (by omega), if_neg (by omega), if_neg (by omega), if_neg (by omega), if_neg (by omega), if_neg (by omega), if_neg (by omega), if_neg (by omega)]), rfl⟩ (Nat.le_of_ble_eq_true rfl) (Nat.le_of_ble_eq_true rfl) dX5_begin_72
