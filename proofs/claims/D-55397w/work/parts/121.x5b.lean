set_option maxRecDepth 100000
set_option maxHeartbeats 400000 in
theorem met_X5_countsOf (l : Launch) (G : hG) {h : hp} {o : Nat} {ma : Nat → Nat} {σ : MS} (hM : isMod G h o ma σ) (c9 : Nat) (k : Nat) (au : Prop) [Decidable au] (hy1 : c9 < 6) (hy2 : k < 3) : mo_Ri l G yX5_countsOf (ws_ yX5_countsOf cX5_countsOf 4 (Option.some Jvm.ClassFile.FieldType.int)) ({ frames := 2, cells := 0, slots := 0, locals := 44 } : Room) [.ref o, .int (nI c9), .int (nI k), .int (b01 au)] h (o_cts (σ.2 0) c9 au k) := by
  refine hv_bi .int (Or.inl rfl) (own := RX5) (by decide +kernel) rfl (Nat.le_of_ble_eq_true rfl) (fun p e s m a below meth c ls Q hx hb hml hown hts hnm hret hw hl => ?_)
  have hl : lv_has ls 4 [(0, .ref o), (1, .int (nI c9)), (2, .int (nI k)), (3, .int (b01 au))] := hl
  refine lv_aload_n hx hb dX5_countsOf_0 rfl (lv_at hl 0 rfl) ?_
  refine mo_get hx hb hts hown hw hM 0 (by decide) q2554 rfl (v := .ref (ma 0)) rfl dX5_countsOf_1 ?_
  refine lv_bipush (v := 10) hx hb dX5_countsOf_4 (by decide) ?_
  refine lv_iload_n hx hb dX5_countsOf_6 rfl (lv_at hl 2 rfl) ?_
  refine lv_iadd hx hb dX5_countsOf_7 ?_
  refine lv_tope (y := nI (10 + k)) (by simp only [nI, Int32.ofNat_add, Int32.ofNat_mul] <;> rfl) ?_
  refine mo_ald hx hb hw hM 0 rfl (j := (10 + k)) rfl (show 10 + k < 137 by omega) dX5_countsOf_8 ?_
  refine lv_aload_n hx hb dX5_countsOf_9 rfl (lv_at hl 0 rfl) ?_
  refine lv_iload_n hx hb dX5_countsOf_10 rfl (lv_at hl 1 rfl) ?_
  refine lv_iload_n hx hb dX5_countsOf_11 rfl (lv_at hl 2 rfl) ?_
  refine hv_callir (va_runV (As := [.int (nI c9), .int (nI k)]) (rest := [.int (σ.2 0 (10 + k))]) ⟨hx, hb, hml, hown, hts⟩ (met_X5_proved l G hM c9 k (show 23 + 19 * c9 + (13 + 2 * k) < 137 by omega)) (cwV 2 hts (lw_V q2764 q2766 qs64 q106 q2767) rfl rfl rfl (by decide +kernel) ⟨Nat.le_of_ble_eq_true rfl, Nat.le_of_ble_eq_true rfl⟩) (hv_preV hw pk_X5 hM.1) rfl rfl hl.1 rfl (lv_room (Nat.le_of_ble_eq_true rfl)) dX5_countsOf_12 ⟨Nat.le_of_ble_eq_true rfl, Nat.le_of_ble_eq_true rfl⟩) hw (fun H locs hw => ?_)
  refine lv_iload_n hx hb dX5_countsOf_15 rfl (lv_at hl 3 rfl) ?_
  refine lv_if_eq (tgt := 23) hx hb dX5_countsOf_16 (by decide) (fun c16 => ?_) (fun c16 => ?_)
  · skip
    have c16 : ¬ (au) := b01_0.mp c16
    refine lv_aload_n hx hb dX5_countsOf_23 rfl (lv_at hl 0 rfl) ?_
    refine lv_iload_n hx hb dX5_countsOf_24 rfl (lv_at hl 1 rfl) ?_
    refine lv_iload_n hx hb dX5_countsOf_25 rfl (lv_at hl 2 rfl) ?_
    refine hv_callir (va_runV (As := [.int (nI c9), .int (nI k)]) (rest := [.int (σ.2 0 (23 + 19 * c9 + (13 + 2 * k))), .int (σ.2 0 (10 + k))]) ⟨hx, hb, hml, hown, hts⟩ (met_X5_unproved l G hM c9 k (show 23 + 19 * c9 + (13 + 2 * k + 1) < 137 by omega)) (cwV 2 hts (lw_V q2768 q2770 qs65 q106 q2771) rfl rfl rfl (by decide +kernel) ⟨Nat.le_of_ble_eq_true rfl, Nat.le_of_ble_eq_true rfl⟩) (hv_preV hw pk_X5 hM.1) rfl rfl hl.1 rfl (lv_room (Nat.le_of_ble_eq_true rfl)) dX5_countsOf_26 ⟨Nat.le_of_ble_eq_true rfl, Nat.le_of_ble_eq_true rfl⟩) hw (fun H locs hw => ?_)
    refine lv_iadd hx hb dX5_countsOf_29 ?_
    refine va_mmin hx hb (hml.trans hl.1.symm) hown (hts _ q2772) (hts _ q554) (hts _ q113) (hts _ q555) (Nat.le_of_ble_eq_true rfl) (Nat.le_of_ble_eq_true rfl) (Nat.le_of_ble_eq_true rfl) (Nat.le_of_ble_eq_true rfl) dX5_countsOf_30 ?_
    refine lv_tope (y := mn (σ.2 0 (10 + k)) ((σ.2 0 (23 + 19 * c9 + (13 + 2 * k))) + (σ.2 0 (23 + 19 * c9 + (13 + 2 * k + 1))))) rfl ?_
    exact hret rfl hw ⟨by unfold o_cts; rw [if_neg c16], rfl⟩ (Nat.le_of_ble_eq_true rfl) (Nat.le_of_ble_eq_true rfl) dX5_countsOf_33
  · skip
    have c16 : au := b01_n.mp c16
    refine lv_iconst (v := 0) hx hb dX5_countsOf_19 (by decide) ?_
    refine lv_goto (tgt := 29) hx hb dX5_countsOf_20 (by decide) ?_
    refine lv_iadd hx hb dX5_countsOf_29 ?_
    refine va_mmin hx hb (hml.trans hl.1.symm) hown (hts _ q2772) (hts _ q554) (hts _ q113) (hts _ q555) (Nat.le_of_ble_eq_true rfl) (Nat.le_of_ble_eq_true rfl) (Nat.le_of_ble_eq_true rfl) (Nat.le_of_ble_eq_true rfl) dX5_countsOf_30 ?_
    refine lv_tope (y := mn (σ.2 0 (10 + k)) ((σ.2 0 (23 + 19 * c9 + (13 + 2 * k))) + 0)) rfl ?_
    exact hret rfl hw ⟨by unfold o_cts; rw [if_pos c16], rfl⟩ (Nat.le_of_ble_eq_true rfl) (Nat.le_of_ble_eq_true rfl) dX5_countsOf_33
set_option maxHeartbeats 400000 in
theorem met_X5_counts (l : Launch) (G : hG) {h : hp} {o : Nat} {ma : Nat → Nat} {σ : MS} (hM : isMod G h o ma σ) (c9 : Nat) (au : Prop) [Decidable au] (hy1 : c9 < 6) : mo_Ri l G yX5_counts (ws_ yX5_counts cX5_counts 5 (Option.some Jvm.ClassFile.FieldType.int)) ({ frames := 3, cells := 0, slots := 0, locals := 67 } : Room) [.ref o, .int (nI c9), .int (b01 au)] h (o_counts (σ.2 0) c9 au 3) := by
  refine hv_bi .int (Or.inl rfl) (own := RX5) (by decide +kernel) rfl (Nat.le_of_ble_eq_true rfl) (fun p e s m a below meth c ls Q hx hb hml hown hts hnm hret hw hl => ?_)
  have hl : lv_has ls 5 [(0, .ref o), (1, .int (nI c9)), (2, .int (b01 au))] := hl
  refine lv_iconst (v := 0) hx hb dX5_counts_0 (by decide) ?_
  refine lv_istore_n (lv' := [(3, .int 0), (0, .ref o), (1, .int (nI c9)), (2, .int (b01 au))]) hx hb dX5_counts_1 rfl hl (by decide) rfl (fun ls hl => ?_)
  refine lv_iconst (v := 0) hx hb dX5_counts_2 (by decide) ?_
  refine lv_istore (lv' := [(4, .int 0), (3, .int 0), (0, .ref o), (1, .int (nI c9)), (2, .int (b01 au))]) hx hb dX5_counts_3 hl (by decide) rfl (fun ls hl => ?_)
  have LP5 : ∀ (n : Nat) (k : Nat) (H : Heap) (locs : List Loc) (ls : Array Slot), 3 - k < n → k ≤ 3 → hv_W G s h H locs → lv_has ls 5 [(4, .int (nI k)), (3, .int (o_counts (σ.2 0) c9 au k)), (0, .ref o), (1, .int (nI c9)), (2, .int (b01 au))] → W p l e ({ frames := 3, cells := 0, slots := 0, locals := 67 } : Room) s m a below meth c H locs 0 0 Q (F0 m 5 ls []) := by
    intro n
    induction n with
    | zero => exact fun k H locs ls hmu => absurd hmu (Nat.not_lt_zero _)
    | succ n ih =>
      intro k H locs ls hmu hkk hw hl
      refine lv_iload hx hb dX5_counts_5 (lv_at hl 0 rfl) ?_
      refine lv_iconst (v := 3) hx hb dX5_counts_7 (by decide) ?_
      refine lv_icmp_ge (tgt := 28) hx hb dX5_counts_8 (by decide) (fun c8 => ?_) (fun c8 => ?_)
      · skip
        have hxk : 3 ≤ k := cmp_le c8 rfl rfl (by omega) (by omega)
        obtain rfl : k = 3 := by omega
        refine lv_iload_n hx hb dX5_counts_28 rfl (lv_at hl 1 rfl) ?_
        exact hret rfl hw ⟨rfl, rfl⟩ (Nat.le_of_ble_eq_true rfl) (Nat.le_of_ble_eq_true rfl) dX5_counts_29
      · skip
        have hxk : k < 3 := cmp_nle c8 rfl rfl (by omega) (by omega)
        refine lv_iload_n hx hb dX5_counts_11 rfl (lv_at hl 1 rfl) ?_
        refine lv_aload_n hx hb dX5_counts_12 rfl (lv_at hl 2 rfl) ?_
        refine lv_iload_n hx hb dX5_counts_13 rfl (lv_at hl 3 rfl) ?_
        refine lv_iload hx hb dX5_counts_14 (lv_at hl 0 rfl) ?_
        refine lv_iload_n hx hb dX5_counts_16 rfl (lv_at hl 4 rfl) ?_
        refine hv_callir (va_runV (As := [.int (nI c9), .int (nI k), .int (b01 au)]) (rest := [.int (o_counts (σ.2 0) c9 au k)]) ⟨hx, hb, hml, hown, hts⟩ (met_X5_countsOf l G hM c9 k (au) (show c9 < 6 by omega) (show k < 3 by omega)) (cwV 3 hts (lw_V q2760 q2762 qs63 q106 q2763) rfl rfl rfl (by decide +kernel) ⟨Nat.le_of_ble_eq_true rfl, Nat.le_of_ble_eq_true rfl⟩) (hv_preV hw pk_X5 hM.1) rfl rfl hl.1 rfl (lv_room (Nat.le_of_ble_eq_true rfl)) dX5_counts_17 ⟨Nat.le_of_ble_eq_true rfl, Nat.le_of_ble_eq_true rfl⟩) hw (fun H locs hw => ?_)
        refine lv_iadd hx hb dX5_counts_20 ?_
        refine lv_istore_n (lv' := [(3, .int ((o_counts (σ.2 0) c9 au k) + (o_cts (σ.2 0) c9 (au) k))), (4, .int (nI k)), (0, .ref o), (1, .int (nI c9)), (2, .int (b01 au))]) hx hb dX5_counts_21 rfl hl (by decide) rfl (fun ls hl => ?_)
        refine lv_iinc (v := nI (k + 1)) (lv' := [(4, .int (nI (k + 1))), (3, .int ((o_counts (σ.2 0) c9 au k) + (o_cts (σ.2 0) c9 (au) k))), (0, .ref o), (1, .int (nI c9)), (2, .int (b01 au))]) hx hb dX5_counts_22 hl (k := 1) rfl (by simp only [nI, Int32.ofNat_add] <;> rfl) (by decide) rfl (fun ls hl => ?_)
        refine lv_goto (tgt := 5) hx hb dX5_counts_25 (by decide) ?_
        exact ih (k + 1) _ _ _ (by omega) (by omega) hw (lv_sub hl [0, 1, 2, 3, 4] rfl)
  exact LP5 _ 0 _ _ _ (Nat.lt_succ_self _) (by omega) hw (lv_sub hl [0, 1, 2, 3, 4] rfl)
set_option maxHeartbeats 400000 in
theorem met_X5_allUnproved (l : Launch) (G : hG) {h : hp} {o : Nat} {ma : Nat → Nat} {σ : MS} (hM : isMod G h o ma σ) (c9 : Nat) (hy1 : c9 < 6) : mo_Ri l G yX5_allUnproved (ws_ yX5_allUnproved cX5_allUnproved 4 (Option.some Jvm.ClassFile.FieldType.int)) ({ frames := 2, cells := 0, slots := 0, locals := 44 } : Room) [.ref o, .int (nI c9)] h (o_bare (σ.2 0) c9 3) := by
  refine hv_bi .int (Or.inl rfl) (own := RX5) (by decide +kernel) rfl (Nat.le_of_ble_eq_true rfl) (fun p e s m a below meth c ls Q hx hb hml hown hts hnm hret hw hl => ?_)
  have hl : lv_has ls 4 [(0, .ref o), (1, .int (nI c9))] := hl
  refine lv_iconst (v := 0) hx hb dX5_allUnproved_0 (by decide) ?_
  refine lv_istore_n (lv' := [(2, .int 0), (0, .ref o), (1, .int (nI c9))]) hx hb dX5_allUnproved_1 rfl hl (by decide) rfl (fun ls hl => ?_)
  refine lv_iconst (v := 0) hx hb dX5_allUnproved_2 (by decide) ?_
  refine lv_istore_n (lv' := [(3, .int 0), (2, .int 0), (0, .ref o), (1, .int (nI c9))]) hx hb dX5_allUnproved_3 rfl hl (by decide) rfl (fun ls hl => ?_)
  have LP4 : ∀ (n : Nat) (k : Nat) (H : Heap) (locs : List Loc) (ls : Array Slot), 3 - k < n → k ≤ 3 → hv_W G s h H locs → lv_has ls 4 [(3, .int (nI k)), (2, .int (o_bare (σ.2 0) c9 k)), (0, .ref o), (1, .int (nI c9))] → W p l e ({ frames := 2, cells := 0, slots := 0, locals := 44 } : Room) s m a below meth c H locs 0 0 Q (F0 m 4 ls []) := by
    intro n
    induction n with
    | zero => exact fun k H locs ls hmu => absurd hmu (Nat.not_lt_zero _)
    | succ n ih =>
      intro k H locs ls hmu hkk hw hl
      refine lv_iload_n hx hb dX5_allUnproved_4 rfl (lv_at hl 0 rfl) ?_
      refine lv_iconst (v := 3) hx hb dX5_allUnproved_5 (by decide) ?_
      refine lv_icmp_ge (tgt := 24) hx hb dX5_allUnproved_6 (by decide) (fun c6 => ?_) (fun c6 => ?_)
      · skip
        have hxk : 3 ≤ k := cmp_le c6 rfl rfl (by omega) (by omega)
        obtain rfl : k = 3 := by omega
        refine lv_iload_n hx hb dX5_allUnproved_24 rfl (lv_at hl 1 rfl) ?_
        exact hret rfl hw ⟨rfl, rfl⟩ (Nat.le_of_ble_eq_true rfl) (Nat.le_of_ble_eq_true rfl) dX5_allUnproved_25
      · skip
        have hxk : k < 3 := cmp_nle c6 rfl rfl (by omega) (by omega)
        refine lv_iload_n hx hb dX5_allUnproved_9 rfl (lv_at hl 1 rfl) ?_
        refine lv_aload_n hx hb dX5_allUnproved_10 rfl (lv_at hl 2 rfl) ?_
        refine lv_iload_n hx hb dX5_allUnproved_11 rfl (lv_at hl 3 rfl) ?_
        refine lv_iload_n hx hb dX5_allUnproved_12 rfl (lv_at hl 0 rfl) ?_
        refine hv_callir (va_runV (As := [.int (nI c9), .int (nI k)]) (rest := [.int (o_bare (σ.2 0) c9 k)]) ⟨hx, hb, hml, hown, hts⟩ (met_X5_unproved l G hM c9 k (show 23 + 19 * c9 + (13 + 2 * k + 1) < 137 by omega)) (cwV 2 hts (lw_V q2768 q2770 qs65 q106 q2771) rfl rfl rfl (by decide +kernel) ⟨Nat.le_of_ble_eq_true rfl, Nat.le_of_ble_eq_true rfl⟩) (hv_preV hw pk_X5 hM.1) rfl rfl hl.1 rfl (lv_room (Nat.le_of_ble_eq_true rfl)) dX5_allUnproved_13 ⟨Nat.le_of_ble_eq_true rfl, Nat.le_of_ble_eq_true rfl⟩) hw (fun H locs hw => ?_)
        refine lv_iadd hx hb dX5_allUnproved_16 ?_
        refine lv_istore_n (lv' := [(2, .int ((o_bare (σ.2 0) c9 k) + (σ.2 0 (23 + 19 * c9 + (13 + 2 * k + 1))))), (3, .int (nI k)), (0, .ref o), (1, .int (nI c9))]) hx hb dX5_allUnproved_17 rfl hl (by decide) rfl (fun ls hl => ?_)
        refine lv_iinc (v := nI (k + 1)) (lv' := [(3, .int (nI (k + 1))), (2, .int ((o_bare (σ.2 0) c9 k) + (σ.2 0 (23 + 19 * c9 + (13 + 2 * k + 1))))), (0, .ref o), (1, .int (nI c9))]) hx hb dX5_allUnproved_18 hl (k := 1) rfl (by simp only [nI, Int32.ofNat_add] <;> rfl) (by decide) rfl (fun ls hl => ?_)
        refine lv_goto (tgt := 4) hx hb dX5_allUnproved_21 (by decide) ?_
        exact ih (k + 1) _ _ _ (by omega) (by omega) hw (lv_sub hl [0, 1, 2, 3] rfl)
  exact LP4 _ 0 _ _ _ (Nat.lt_succ_self _) (by omega) hw (lv_sub hl [0, 1, 2, 3] rfl)
set_option maxHeartbeats 400000 in
theorem met_X5_leftOfCredit (l : Launch) (G : hG) {h : hp} {o : Nat} {ma : Nat → Nat} {σ : MS} (hM : isMod G h o ma σ) (x : Int32) : mo_Ri l G yX5_leftOfCredit (ws_ yX5_leftOfCredit cX5_leftOfCredit 2 (Option.some Jvm.ClassFile.FieldType.int)) ({ frames := 1, cells := 0, slots := 0, locals := 16 } : Room) [.ref o, .int x] h (o_left (σ.2 0) x) := by
  refine hv_bi .int (Or.inl rfl) (own := RX5) (by decide +kernel) rfl (Nat.le_of_ble_eq_true rfl) (fun p e s m a below meth c ls Q hx hb hml hown hts hnm hret hw hl => ?_)
  have hl : lv_has ls 2 [(0, .ref o), (1, .int x)] := hl
  refine lv_iconst (v := 0) hx hb dX5_leftOfCredit_0 (by decide) ?_
  refine lv_bipush (v := 100) hx hb dX5_leftOfCredit_1 (by decide) ?_
  refine lv_aload_n hx hb dX5_leftOfCredit_3 rfl (lv_at hl 0 rfl) ?_
  refine mo_get hx hb hts hown hw hM 0 (by decide) q2554 rfl (v := .ref (ma 0)) rfl dX5_leftOfCredit_4 ?_
  refine lv_iconst (v := 2) hx hb dX5_leftOfCredit_7 (by decide) ?_
  refine mo_ald hx hb hw hM 0 rfl (j := 2) rfl (show 2 < 137 by omega) dX5_leftOfCredit_8 ?_
  refine lv_imul hx hb dX5_leftOfCredit_9 ?_
  refine lv_aload_n hx hb dX5_leftOfCredit_10 rfl (lv_at hl 0 rfl) ?_
  refine mo_get hx hb hts hown hw hM 0 (by decide) q2554 rfl (v := .ref (ma 0)) rfl dX5_leftOfCredit_11 ?_
  refine lv_iconst (v := 4) hx hb dX5_leftOfCredit_14 (by decide) ?_
  refine mo_ald hx hb hw hM 0 rfl (j := 4) rfl (show 4 < 137 by omega) dX5_leftOfCredit_15 ?_
  refine lv_iconst (v := 0) hx hb dX5_leftOfCredit_16 (by decide) ?_
  refine lv_iload_n hx hb dX5_leftOfCredit_17 rfl (lv_at hl 1 rfl) ?_
  refine lv_aload_n hx hb dX5_leftOfCredit_18 rfl (lv_at hl 0 rfl) ?_
  refine mo_get hx hb hts hown hw hM 0 (by decide) q2554 rfl (v := .ref (ma 0)) rfl dX5_leftOfCredit_19 ?_
  refine lv_iconst (v := 3) hx hb dX5_leftOfCredit_22 (by decide) ?_
  refine mo_ald hx hb hw hM 0 rfl (j := 3) rfl (show 3 < 137 by omega) dX5_leftOfCredit_23 ?_
  refine lv_isub hx hb dX5_leftOfCredit_24 ?_
  refine va_mmax hx hb (hml.trans hl.1.symm) hown (hts _ q2804) (hts _ q536) (hts _ q113) (hts _ q537) (Nat.le_of_ble_eq_true rfl) (Nat.le_of_ble_eq_true rfl) (Nat.le_of_ble_eq_true rfl) (Nat.le_of_ble_eq_true rfl) dX5_leftOfCredit_25 ?_
  refine lv_tope (y := mx 0 (x - (σ.2 0 3))) rfl ?_
  refine lv_imul hx hb dX5_leftOfCredit_28 ?_
  refine lv_isub hx hb dX5_leftOfCredit_29 ?_
  refine va_mmax hx hb (hml.trans hl.1.symm) hown (hts _ q2804) (hts _ q536) (hts _ q113) (hts _ q537) (Nat.le_of_ble_eq_true rfl) (Nat.le_of_ble_eq_true rfl) (Nat.le_of_ble_eq_true rfl) (Nat.le_of_ble_eq_true rfl) dX5_leftOfCredit_30 ?_
  refine lv_tope (y := mx 0 ((100 * (σ.2 0 2)) - ((σ.2 0 4) * (mx 0 (x - (σ.2 0 3)))))) rfl ?_
  exact hret rfl hw ⟨rfl, rfl⟩ (Nat.le_of_ble_eq_true rfl) (Nat.le_of_ble_eq_true rfl) dX5_leftOfCredit_33
set_option maxHeartbeats 400000 in
theorem met_X5_dues (l : Launch) (G : hG) {h : hp} {o : Nat} {ma : Nat → Nat} {σ : MS} (hM : isMod G h o ma σ) (x : Int32) (y9 : Int32) (hok : okI (σ.2 0)) : mo_Ri l G yX5_dues (ws_ yX5_dues cX5_dues 7 (Option.some Jvm.ClassFile.FieldType.int)) ({ frames := 2, cells := 0, slots := 0, locals := 37 } : Room) [.ref o, .int x, .int y9] h (o_dues (σ.2 0) x y9) := by
  refine hv_bi .int (Or.inl rfl) (own := RX5) (by decide +kernel) rfl (Nat.le_of_ble_eq_true rfl) (fun p e s m a below meth c ls Q hx hb hml hown hts hnm hret hw hl => ?_)
  have hl : lv_has ls 7 [(0, .ref o), (1, .int x), (2, .int y9)] := hl
  have hmx : o_many (σ.2 0) ≤ 5 := hok.2.2.1
  refine lv_iconst (v := 0) hx hb dX5_dues_0 (by decide) ?_
  refine lv_iload_n hx hb dX5_dues_1 rfl (lv_at hl 1 rfl) ?_
  refine lv_iload_n hx hb dX5_dues_2 rfl (lv_at hl 2 rfl) ?_
  refine lv_isub hx hb dX5_dues_3 ?_
  refine va_mmax hx hb (hml.trans hl.1.symm) hown (hts _ q2804) (hts _ q536) (hts _ q113) (hts _ q537) (Nat.le_of_ble_eq_true rfl) (Nat.le_of_ble_eq_true rfl) (Nat.le_of_ble_eq_true rfl) (Nat.le_of_ble_eq_true rfl) dX5_dues_4 ?_
  refine lv_tope (y := mx 0 (x - y9)) rfl ?_
  refine lv_istore_n (lv' := [(3, .int (mx 0 (x - y9))), (0, .ref o), (1, .int x), (2, .int y9)]) hx hb dX5_dues_7 rfl hl (by decide) rfl (fun ls hl => ?_)
  refine lv_iconst (v := 0) hx hb dX5_dues_8 (by decide) ?_
  refine lv_istore (lv' := [(4, .int 0), (3, .int (mx 0 (x - y9))), (0, .ref o), (1, .int x), (2, .int y9)]) hx hb dX5_dues_9 hl (by decide) rfl (fun ls hl => ?_)
  refine lv_iconst (v := 0) hx hb dX5_dues_11 (by decide) ?_
  refine lv_istore (lv' := [(5, .int 0), (4, .int 0), (3, .int (mx 0 (x - y9))), (0, .ref o), (1, .int x), (2, .int y9)]) hx hb dX5_dues_12 hl (by decide) rfl (fun ls hl => ?_)
  have LP14 : ∀ (n : Nat) (k : Nat) (H : Heap) (locs : List Loc) (ls : Array Slot), o_many (σ.2 0) - k < n → k ≤ o_many (σ.2 0) → hv_W G s h H locs → lv_has ls 7 [(5, .int (nI k)), (4, .int (o_hund (σ.2 0) (mx 0 (x - y9)) k)), (3, .int (mx 0 (x - y9))), (0, .ref o), (1, .int x), (2, .int y9)] → W p l e ({ frames := 2, cells := 0, slots := 0, locals := 37 } : Room) s m a below meth c H locs 0 0 Q (F0 m 14 ls []) := by
    intro n
    induction n with
    | zero => exact fun k H locs ls hmu => absurd hmu (Nat.not_lt_zero _)
    | succ n ih =>
      intro k H locs ls hmu hkk hw hl
      refine lv_iload hx hb dX5_dues_14 (lv_at hl 0 rfl) ?_
      refine lv_aload_n hx hb dX5_dues_16 rfl (lv_at hl 3 rfl) ?_
      refine mo_get hx hb hts hown hw hM 0 (by decide) q2554 rfl (v := .ref (ma 0)) rfl dX5_dues_17 ?_
      refine lv_iconst (v := 1) hx hb dX5_dues_20 (by decide) ?_
      refine mo_ald hx hb hw hM 0 rfl (j := 1) rfl (show 1 < 137 by omega) dX5_dues_21 ?_
      refine lv_icmp_ge (tgt := 87) hx hb dX5_dues_22 (by decide) (fun c22 => ?_) (fun c22 => ?_)
      · skip
        have hxk : o_many (σ.2 0) ≤ k := cmp_le c22 hok.1 rfl (by omega) (by omega)
        obtain rfl : k = o_many (σ.2 0) := by omega
        refine lv_iload hx hb dX5_dues_87 (lv_at hl 1 rfl) ?_
        refine lv_aload_n hx hb dX5_dues_89 rfl (lv_at hl 3 rfl) ?_
        refine lv_iload_n hx hb dX5_dues_90 rfl (lv_at hl 4 rfl) ?_
        refine hv_callir (va_runV (As := [.int x]) (rest := [.int (o_hund (σ.2 0) (mx 0 (x - y9)) (o_many (σ.2 0)))]) ⟨hx, hb, hml, hown, hts⟩ (met_X5_leftOfCredit l G hM x ) (cwV 1 hts (lw_V q2805 q2807 qs71 q106 q2808) rfl rfl rfl (by decide +kernel) ⟨Nat.le_of_ble_eq_true rfl, Nat.le_of_ble_eq_true rfl⟩) (hv_preV hw pk_X5 hM.1) rfl rfl hl.1 rfl (lv_room (Nat.le_of_ble_eq_true rfl)) dX5_dues_91 ⟨Nat.le_of_ble_eq_true rfl, Nat.le_of_ble_eq_true rfl⟩) hw (fun H locs hw => ?_)
        refine lv_isub hx hb dX5_dues_94 ?_
        exact hret rfl hw ⟨rfl, rfl⟩ (Nat.le_of_ble_eq_true rfl) (Nat.le_of_ble_eq_true rfl) dX5_dues_95
      · skip
        have hxk : k < o_many (σ.2 0) := cmp_nle c22 hok.1 rfl (by omega) (by omega)
        refine lv_iload hx hb dX5_dues_25 (lv_at hl 0 rfl) ?_
        refine lv_iconst (v := 1) hx hb dX5_dues_27 (by decide) ?_
        refine lv_iadd hx hb dX5_dues_28 ?_
        refine lv_tope (y := nI (k + 1)) (by simp only [nI, Int32.ofNat_add, Int32.ofNat_mul] <;> rfl) ?_
        refine lv_aload_n hx hb dX5_dues_29 rfl (lv_at hl 3 rfl) ?_
        refine mo_get hx hb hts hown hw hM 0 (by decide) q2554 rfl (v := .ref (ma 0)) rfl dX5_dues_30 ?_
        refine lv_iconst (v := 1) hx hb dX5_dues_33 (by decide) ?_
        refine mo_ald hx hb hw hM 0 rfl (j := 1) rfl (show 1 < 137 by omega) dX5_dues_34 ?_
        refine lv_icmp_ge (tgt := 53) hx hb dX5_dues_35 (by decide) (fun c35 => ?_) (fun c35 => ?_)
        · skip
          have ht : o_to (σ.2 0) (mx 0 (x - y9)) k = mx 0 (x - y9) := if_neg (Nat.not_lt.mpr (cmp_le c35 hok.1 rfl (by omega) (by omega)))
          refine lv_iload_n hx hb dX5_dues_53 rfl (lv_at hl 2 rfl) ?_
          refine lv_tope (y := o_to (σ.2 0) (mx 0 (x - y9)) k) ht.symm ?_
          refine lv_istore (lv' := [(6, .int (o_to (σ.2 0) (mx 0 (x - y9)) k)), (5, .int (nI k)), (4, .int (o_hund (σ.2 0) (mx 0 (x - y9)) k)), (3, .int (mx 0 (x - y9))), (0, .ref o), (1, .int x), (2, .int y9)]) hx hb dX5_dues_54 hl (by decide) rfl (fun ls hl => ?_)
          refine lv_iload hx hb dX5_dues_56 (lv_at hl 2 rfl) ?_
          refine lv_iconst (v := 0) hx hb dX5_dues_58 (by decide) ?_
          refine lv_iload hx hb dX5_dues_59 (lv_at hl 0 rfl) ?_
          refine lv_aload_n hx hb dX5_dues_61 rfl (lv_at hl 4 rfl) ?_
          refine lv_iload hx hb dX5_dues_62 (lv_at hl 1 rfl) ?_
          refine hv_callir (va_runV (As := [.int (nI k)]) (rest := [.int (o_to (σ.2 0) (mx 0 (x - y9)) k), .int 0, .int (o_hund (σ.2 0) (mx 0 (x - y9)) k)]) ⟨hx, hb, hml, hown, hts⟩ (met_X5_edge l G hM k (show 13 + 2 * k < 137 by omega)) (cwV 1 hts (lw_V q2673 q2675 qs49 q106 q2676) rfl rfl rfl (by decide +kernel) ⟨Nat.le_of_ble_eq_true rfl, Nat.le_of_ble_eq_true rfl⟩) (hv_preV hw pk_X5 hM.1) rfl rfl hl.1 rfl (lv_room (Nat.le_of_ble_eq_true rfl)) dX5_dues_64 ⟨Nat.le_of_ble_eq_true rfl, Nat.le_of_ble_eq_true rfl⟩) hw (fun H locs hw => ?_)
          refine lv_isub hx hb dX5_dues_67 ?_
          refine va_mmax hx hb (hml.trans hl.1.symm) hown (hts _ q2804) (hts _ q536) (hts _ q113) (hts _ q537) (Nat.le_of_ble_eq_true rfl) (Nat.le_of_ble_eq_true rfl) (Nat.le_of_ble_eq_true rfl) (Nat.le_of_ble_eq_true rfl) dX5_dues_68 ?_
          refine lv_tope (y := mx 0 ((o_to (σ.2 0) (mx 0 (x - y9)) k) - (σ.2 0 (13 + 2 * k)))) rfl ?_
          refine lv_aload_n hx hb dX5_dues_71 rfl (lv_at hl 4 rfl) ?_
          refine lv_iload hx hb dX5_dues_72 (lv_at hl 1 rfl) ?_
          refine hv_callir (va_runV (As := [.int (nI k)]) (rest := [.int (mx 0 ((o_to (σ.2 0) (mx 0 (x - y9)) k) - (σ.2 0 (13 + 2 * k)))), .int (o_hund (σ.2 0) (mx 0 (x - y9)) k)]) ⟨hx, hb, hml, hown, hts⟩ (met_X5_rateOf l G hM k (show 13 + 2 * k + 1 < 137 by omega)) (cwV 1 hts (lw_V q2697 q2699 qs54 q106 q2700) rfl rfl rfl (by decide +kernel) ⟨Nat.le_of_ble_eq_true rfl, Nat.le_of_ble_eq_true rfl⟩) (hv_preV hw pk_X5 hM.1) rfl rfl hl.1 rfl (lv_room (Nat.le_of_ble_eq_true rfl)) dX5_dues_74 ⟨Nat.le_of_ble_eq_true rfl, Nat.le_of_ble_eq_true rfl⟩) hw (fun H locs hw => ?_)
          refine lv_imul hx hb dX5_dues_77 ?_
          refine lv_iadd hx hb dX5_dues_78 ?_
          refine lv_istore (lv' := [(4, .int ((o_hund (σ.2 0) (mx 0 (x - y9)) k) + ((mx 0 ((o_to (σ.2 0) (mx 0 (x - y9)) k) - (σ.2 0 (13 + 2 * k)))) * (σ.2 0 (13 + 2 * k + 1))))), (6, .int (o_to (σ.2 0) (mx 0 (x - y9)) k)), (5, .int (nI k)), (3, .int (mx 0 (x - y9))), (0, .ref o), (1, .int x), (2, .int y9)]) hx hb dX5_dues_79 hl (by decide) rfl (fun ls hl => ?_)
          refine lv_iinc (v := nI (k + 1)) (lv' := [(5, .int (nI (k + 1))), (4, .int ((o_hund (σ.2 0) (mx 0 (x - y9)) k) + ((mx 0 ((o_to (σ.2 0) (mx 0 (x - y9)) k) - (σ.2 0 (13 + 2 * k)))) * (σ.2 0 (13 + 2 * k + 1))))), (6, .int (o_to (σ.2 0) (mx 0 (x - y9)) k)), (3, .int (mx 0 (x - y9))), (0, .ref o), (1, .int x), (2, .int y9)]) hx hb dX5_dues_81 hl (k := 2) rfl (by simp only [nI, Int32.ofNat_add] <;> rfl) (by decide) rfl (fun ls hl => ?_)
          refine lv_goto (tgt := 14) hx hb dX5_dues_84 (by decide) ?_
          exact ih (k + 1) _ _ _ (by omega) (by omega) hw (lv_sub hl [0, 1, 3, 4, 5, 6] rfl)
        · skip
          have ht : o_to (σ.2 0) (mx 0 (x - y9)) k = mn (mx 0 (x - y9)) (σ.2 0 (13 + 2 * (k + 1))) := if_pos (cmp_nle c35 hok.1 rfl (by omega) (by omega))
          refine lv_iload_n hx hb dX5_dues_38 rfl (lv_at hl 2 rfl) ?_
          refine lv_aload_n hx hb dX5_dues_39 rfl (lv_at hl 3 rfl) ?_
          refine lv_iload hx hb dX5_dues_40 (lv_at hl 0 rfl) ?_
          refine lv_iconst (v := 1) hx hb dX5_dues_42 (by decide) ?_
          refine lv_iadd hx hb dX5_dues_43 ?_
          refine lv_tope (y := nI (k + 1)) (by simp only [nI, Int32.ofNat_add, Int32.ofNat_mul] <;> rfl) ?_
          refine hv_callir (va_runV (As := [.int (nI (k + 1))]) (rest := [.int (mx 0 (x - y9))]) ⟨hx, hb, hml, hown, hts⟩ (met_X5_edge l G hM (k + 1) (show 13 + 2 * (k + 1) < 137 by omega)) (cwV 1 hts (lw_V q2673 q2675 qs49 q106 q2676) rfl rfl rfl (by decide +kernel) ⟨Nat.le_of_ble_eq_true rfl, Nat.le_of_ble_eq_true rfl⟩) (hv_preV hw pk_X5 hM.1) rfl rfl hl.1 rfl (lv_room (Nat.le_of_ble_eq_true rfl)) dX5_dues_44 ⟨Nat.le_of_ble_eq_true rfl, Nat.le_of_ble_eq_true rfl⟩) hw (fun H locs hw => ?_)
          refine va_mmin hx hb (hml.trans hl.1.symm) hown (hts _ q2772) (hts _ q554) (hts _ q113) (hts _ q555) (Nat.le_of_ble_eq_true rfl) (Nat.le_of_ble_eq_true rfl) (Nat.le_of_ble_eq_true rfl) (Nat.le_of_ble_eq_true rfl) dX5_dues_47 ?_
          refine lv_tope (y := mn (mx 0 (x - y9)) (σ.2 0 (13 + 2 * (k + 1)))) rfl ?_
          refine lv_goto (tgt := 54) hx hb dX5_dues_50 (by decide) ?_
          refine lv_tope (y := o_to (σ.2 0) (mx 0 (x - y9)) k) ht.symm ?_
          refine lv_istore (lv' := [(6, .int (o_to (σ.2 0) (mx 0 (x - y9)) k)), (5, .int (nI k)), (4, .int (o_hund (σ.2 0) (mx 0 (x - y9)) k)), (3, .int (mx 0 (x - y9))), (0, .ref o), (1, .int x), (2, .int y9)]) hx hb dX5_dues_54 hl (by decide) rfl (fun ls hl => ?_)
          refine lv_iload hx hb dX5_dues_56 (lv_at hl 2 rfl) ?_
          refine lv_iconst (v := 0) hx hb dX5_dues_58 (by decide) ?_
          refine lv_iload hx hb dX5_dues_59 (lv_at hl 0 rfl) ?_
          refine lv_aload_n hx hb dX5_dues_61 rfl (lv_at hl 4 rfl) ?_
          refine lv_iload hx hb dX5_dues_62 (lv_at hl 1 rfl) ?_
          refine hv_callir (va_runV (As := [.int (nI k)]) (rest := [.int (o_to (σ.2 0) (mx 0 (x - y9)) k), .int 0, .int (o_hund (σ.2 0) (mx 0 (x - y9)) k)]) ⟨hx, hb, hml, hown, hts⟩ (met_X5_edge l G hM k (show 13 + 2 * k < 137 by omega)) (cwV 1 hts (lw_V q2673 q2675 qs49 q106 q2676) rfl rfl rfl (by decide +kernel) ⟨Nat.le_of_ble_eq_true rfl, Nat.le_of_ble_eq_true rfl⟩) (hv_preV hw pk_X5 hM.1) rfl rfl hl.1 rfl (lv_room (Nat.le_of_ble_eq_true rfl)) dX5_dues_64 ⟨Nat.le_of_ble_eq_true rfl, Nat.le_of_ble_eq_true rfl⟩) hw (fun H locs hw => ?_)
          refine lv_isub hx hb dX5_dues_67 ?_
          refine va_mmax hx hb (hml.trans hl.1.symm) hown (hts _ q2804) (hts _ q536) (hts _ q113) (hts _ q537) (Nat.le_of_ble_eq_true rfl) (Nat.le_of_ble_eq_true rfl) (Nat.le_of_ble_eq_true rfl) (Nat.le_of_ble_eq_true rfl) dX5_dues_68 ?_
          refine lv_tope (y := mx 0 ((o_to (σ.2 0) (mx 0 (x - y9)) k) - (σ.2 0 (13 + 2 * k)))) rfl ?_
          refine lv_aload_n hx hb dX5_dues_71 rfl (lv_at hl 4 rfl) ?_
          refine lv_iload hx hb dX5_dues_72 (lv_at hl 1 rfl) ?_
          refine hv_callir (va_runV (As := [.int (nI k)]) (rest := [.int (mx 0 ((o_to (σ.2 0) (mx 0 (x - y9)) k) - (σ.2 0 (13 + 2 * k)))), .int (o_hund (σ.2 0) (mx 0 (x - y9)) k)]) ⟨hx, hb, hml, hown, hts⟩ (met_X5_rateOf l G hM k (show 13 + 2 * k + 1 < 137 by omega)) (cwV 1 hts (lw_V q2697 q2699 qs54 q106 q2700) rfl rfl rfl (by decide +kernel) ⟨Nat.le_of_ble_eq_true rfl, Nat.le_of_ble_eq_true rfl⟩) (hv_preV hw pk_X5 hM.1) rfl rfl hl.1 rfl (lv_room (Nat.le_of_ble_eq_true rfl)) dX5_dues_74 ⟨Nat.le_of_ble_eq_true rfl, Nat.le_of_ble_eq_true rfl⟩) hw (fun H locs hw => ?_)
          refine lv_imul hx hb dX5_dues_77 ?_
          refine lv_iadd hx hb dX5_dues_78 ?_
          refine lv_istore (lv' := [(4, .int ((o_hund (σ.2 0) (mx 0 (x - y9)) k) + ((mx 0 ((o_to (σ.2 0) (mx 0 (x - y9)) k) - (σ.2 0 (13 + 2 * k)))) * (σ.2 0 (13 + 2 * k + 1))))), (6, .int (o_to (σ.2 0) (mx 0 (x - y9)) k)), (5, .int (nI k)), (3, .int (mx 0 (x - y9))), (0, .ref o), (1, .int x), (2, .int y9)]) hx hb dX5_dues_79 hl (by decide) rfl (fun ls hl => ?_)
          refine lv_iinc (v := nI (k + 1)) (lv' := [(5, .int (nI (k + 1))), (4, .int ((o_hund (σ.2 0) (mx 0 (x - y9)) k) + ((mx 0 ((o_to (σ.2 0) (mx 0 (x - y9)) k) - (σ.2 0 (13 + 2 * k)))) * (σ.2 0 (13 + 2 * k + 1))))), (6, .int (o_to (σ.2 0) (mx 0 (x - y9)) k)), (3, .int (mx 0 (x - y9))), (0, .ref o), (1, .int x), (2, .int y9)]) hx hb dX5_dues_81 hl (k := 2) rfl (by simp only [nI, Int32.ofNat_add] <;> rfl) (by decide) rfl (fun ls hl => ?_)
          refine lv_goto (tgt := 14) hx hb dX5_dues_84 (by decide) ?_
          exact ih (k + 1) _ _ _ (by omega) (by omega) hw (lv_sub hl [0, 1, 3, 4, 5, 6] rfl)
  exact LP14 _ 0 _ _ _ (Nat.lt_succ_self _) (by omega) hw (lv_sub hl [0, 1, 2, 3, 4, 5] rfl)
set_option maxHeartbeats 400000 in
theorem met_X5_carried (l : Launch) (G : hG) {h : hp} {o : Nat} {ma : Nat → Nat} {σ : MS} (hM : isMod G h o ma σ) (c9 : Nat) (hok : okI (σ.2 0)) (hy1 : c9 < o_people (σ.2 0)) : mo_Ri l G yX5_carried (ws_ yX5_carried cX5_carried 4 (Option.some Jvm.ClassFile.FieldType.int)) ({ frames := 1, cells := 0, slots := 0, locals := 22 } : Room) [.ref o, .int (nI c9)] h (o_carried (σ.2 0) c9) := by
  refine hv_bi .int (Or.inl rfl) (own := RX5) (by decide +kernel) rfl (Nat.le_of_ble_eq_true rfl) (fun p e s m a below meth c ls Q hx hb hml hown hts hnm hret hw hl => ?_)
  have hl : lv_has ls 4 [(0, .ref o), (1, .int (nI c9))] := hl
  have hy2 : o_people (σ.2 0) ≤ 6 := hok.2.2.2.2.1
  have hy3 := (hok.2.2.2.2.2.1 c9 hy1).2
  refine lv_iconst (v := 0) hx hb dX5_carried_0 (by decide) ?_
  refine lv_istore_n (lv' := [(2, .int 0), (0, .ref o), (1, .int (nI c9))]) hx hb dX5_carried_1 rfl hl (by decide) rfl (fun ls hl => ?_)
  refine lv_iconst (v := 0) hx hb dX5_carried_2 (by decide) ?_
  refine lv_istore_n (lv' := [(3, .int 0), (2, .int 0), (0, .ref o), (1, .int (nI c9))]) hx hb dX5_carried_3 rfl hl (by decide) rfl (fun ls hl => ?_)
  have LP4 : ∀ (n : Nat) (k : Nat) (H : Heap) (locs : List Loc) (ls : Array Slot), o_held (σ.2 0) c9 - k < n → k ≤ o_held (σ.2 0) c9 → hv_W G s h H locs → lv_has ls 4 [(3, .int (nI k)), (2, .int (o_car (σ.2 0) c9 k)), (0, .ref o), (1, .int (nI c9))] → W p l e ({ frames := 1, cells := 0, slots := 0, locals := 22 } : Room) s m a below meth c H locs 0 0 Q (F0 m 4 ls []) := by
    intro n
    induction n with
    | zero => exact fun k H locs ls hmu => absurd hmu (Nat.not_lt_zero _)
    | succ n ih =>
      intro k H locs ls hmu hkk hw hl
      refine lv_iload_n hx hb dX5_carried_4 rfl (lv_at hl 0 rfl) ?_
      refine lv_aload_n hx hb dX5_carried_5 rfl (lv_at hl 2 rfl) ?_
      refine lv_iload_n hx hb dX5_carried_6 rfl (lv_at hl 3 rfl) ?_
      refine lv_bipush (v := 6) hx hb dX5_carried_7 (by decide) ?_
      refine hv_callir (va_runV (As := [.int (nI c9), .int 6]) (rest := [.int (nI k)]) ⟨hx, hb, hml, hown, hts⟩ (met_X5_of l G hM c9 6 (show 23 + 19 * c9 + 6 < 137 by omega)) (cwV 2 hts (lw_V q2740 q2742 qs59 q106 q2743) rfl rfl rfl (by decide +kernel) ⟨Nat.le_of_ble_eq_true rfl, Nat.le_of_ble_eq_true rfl⟩) (hv_preV hw pk_X5 hM.1) rfl rfl hl.1 rfl (lv_room (Nat.le_of_ble_eq_true rfl)) dX5_carried_9 ⟨Nat.le_of_ble_eq_true rfl, Nat.le_of_ble_eq_true rfl⟩) hw (fun H locs hw => ?_)
      refine lv_icmp_ge (tgt := 35) hx hb dX5_carried_12 (by decide) (fun c12 => ?_) (fun c12 => ?_)
      · skip
        have hxk : o_held (σ.2 0) c9 ≤ k := cmp_le c12 ((hok.2.2.2.2.2.1 c9 hy1).1) rfl (by omega) (by omega)
        obtain rfl : k = o_held (σ.2 0) c9 := by omega
        refine lv_iload_n hx hb dX5_carried_35 rfl (lv_at hl 1 rfl) ?_
        exact hret rfl hw ⟨rfl, rfl⟩ (Nat.le_of_ble_eq_true rfl) (Nat.le_of_ble_eq_true rfl) dX5_carried_36
      · skip
        have hxk : k < o_held (σ.2 0) c9 := cmp_nle c12 ((hok.2.2.2.2.2.1 c9 hy1).1) rfl (by omega) (by omega)
        refine lv_iload_n hx hb dX5_carried_15 rfl (lv_at hl 1 rfl) ?_
        refine lv_aload_n hx hb dX5_carried_16 rfl (lv_at hl 2 rfl) ?_
        refine lv_iload_n hx hb dX5_carried_17 rfl (lv_at hl 3 rfl) ?_
        refine lv_bipush (v := 7) hx hb dX5_carried_18 (by decide) ?_
        refine lv_iconst (v := 2) hx hb dX5_carried_20 (by decide) ?_
        refine lv_iload_n hx hb dX5_carried_21 rfl (lv_at hl 0 rfl) ?_
        refine lv_imul hx hb dX5_carried_22 ?_
        refine lv_tope (y := nI (2 * k)) (by simp only [nI, Int32.ofNat_add, Int32.ofNat_mul] <;> rfl) ?_
        refine lv_iadd hx hb dX5_carried_23 ?_
        refine lv_tope (y := nI (7 + 2 * k)) (by simp only [nI, Int32.ofNat_add, Int32.ofNat_mul] <;> rfl) ?_
        refine hv_callir (va_runV (As := [.int (nI c9), .int (nI (7 + 2 * k))]) (rest := [.int (o_car (σ.2 0) c9 k)]) ⟨hx, hb, hml, hown, hts⟩ (met_X5_of l G hM c9 (7 + 2 * k) (show 23 + 19 * c9 + (7 + 2 * k) < 137 by omega)) (cwV 2 hts (lw_V q2740 q2742 qs59 q106 q2743) rfl rfl rfl (by decide +kernel) ⟨Nat.le_of_ble_eq_true rfl, Nat.le_of_ble_eq_true rfl⟩) (hv_preV hw pk_X5 hM.1) rfl rfl hl.1 rfl (lv_room (Nat.le_of_ble_eq_true rfl)) dX5_carried_24 ⟨Nat.le_of_ble_eq_true rfl, Nat.le_of_ble_eq_true rfl⟩) hw (fun H locs hw => ?_)
        refine lv_iadd hx hb dX5_carried_27 ?_
        refine lv_istore_n (lv' := [(2, .int ((o_car (σ.2 0) c9 k) + (σ.2 0 (23 + 19 * c9 + (7 + 2 * k))))), (3, .int (nI k)), (0, .ref o), (1, .int (nI c9))]) hx hb dX5_carried_28 rfl hl (by decide) rfl (fun ls hl => ?_)
        refine lv_iinc (v := nI (k + 1)) (lv' := [(3, .int (nI (k + 1))), (2, .int ((o_car (σ.2 0) c9 k) + (σ.2 0 (23 + 19 * c9 + (7 + 2 * k))))), (0, .ref o), (1, .int (nI c9))]) hx hb dX5_carried_29 hl (k := 1) rfl (by simp only [nI, Int32.ofNat_add] <;> rfl) (by decide) rfl (fun ls hl => ?_)
        refine lv_goto (tgt := 4) hx hb dX5_carried_32 (by decide) ?_
        exact ih (k + 1) _ _ _ (by omega) (by omega) hw (lv_sub hl [0, 1, 2, 3] rfl)
  exact LP4 _ 0 _ _ _ (Nat.lt_succ_self _) (by omega) hw (lv_sub hl [0, 1, 2, 3] rfl)
set_option maxHeartbeats 400000 in
theorem met_X5_taxOf (l : Launch) (G : hG) {h : hp} {o : Nat} {ma : Nat → Nat} {σ : MS} (hM : isMod G h o ma σ) (c9 : Nat) (x : Int32) (au : Prop) [Decidable au] (hok : okI (σ.2 0)) (hy1 : c9 < o_people (σ.2 0)) : mo_Ri l G yX5_taxOf (ws_ yX5_taxOf cX5_taxOf 5 (Option.some Jvm.ClassFile.FieldType.int)) ({ frames := 4, cells := 0, slots := 0, locals := 91 } : Room) [.ref o, .int (nI c9), .int x, .int (b01 au)] h (o_tax (σ.2 0) c9 x au) := by
  refine hv_bi .int (Or.inl rfl) (own := RX5) (by decide +kernel) rfl (Nat.le_of_ble_eq_true rfl) (fun p e s m a below meth c ls Q hx hb hml hown hts hnm hret hw hl => ?_)
  have hl : lv_has ls 5 [(0, .ref o), (1, .int (nI c9)), (2, .int x), (3, .int (b01 au))] := hl
  have hy2 : o_people (σ.2 0) ≤ 6 := hok.2.2.2.2.1
  refine lv_aload_n hx hb dX5_taxOf_0 rfl (lv_at hl 0 rfl) ?_
  refine lv_iload_n hx hb dX5_taxOf_1 rfl (lv_at hl 2 rfl) ?_
  refine lv_aload_n hx hb dX5_taxOf_2 rfl (lv_at hl 0 rfl) ?_
  refine lv_iload_n hx hb dX5_taxOf_3 rfl (lv_at hl 1 rfl) ?_
  refine lv_iload_n hx hb dX5_taxOf_4 rfl (lv_at hl 3 rfl) ?_
  refine hv_callir (va_runV (As := [.int (nI c9), .int (b01 au)]) (rest := [.int x, .ref o]) ⟨hx, hb, hml, hown, hts⟩ (met_X5_counts l G hM c9 (au) (show c9 < 6 by omega)) (cwV 2 hts (lw_V q2796 q2798 qs69 q106 q2799) rfl rfl rfl (by decide +kernel) ⟨Nat.le_of_ble_eq_true rfl, Nat.le_of_ble_eq_true rfl⟩) (hv_preV hw pk_X5 hM.1) rfl rfl hl.1 rfl (lv_room (Nat.le_of_ble_eq_true rfl)) dX5_taxOf_5 ⟨Nat.le_of_ble_eq_true rfl, Nat.le_of_ble_eq_true rfl⟩) hw (fun H locs hw => ?_)
  refine hv_callir (va_runV (As := [.int x, .int (o_counts (σ.2 0) c9 (au) 3)]) (rest := []) ⟨hx, hb, hml, hown, hts⟩ (met_X5_dues l G hM x (o_counts (σ.2 0) c9 (au) 3) (hok)) (cwV 2 hts (lw_V q2800 q2802 qs70 q106 q2803) rfl rfl rfl (by decide +kernel) ⟨Nat.le_of_ble_eq_true rfl, Nat.le_of_ble_eq_true rfl⟩) (hv_preV hw pk_X5 hM.1) rfl rfl hl.1 rfl (lv_room (Nat.le_of_ble_eq_true rfl)) dX5_taxOf_8 ⟨Nat.le_of_ble_eq_true rfl, Nat.le_of_ble_eq_true rfl⟩) hw (fun H locs hw => ?_)
  refine lv_istore (lv' := [(4, .int (o_dues (σ.2 0) x (o_counts (σ.2 0) c9 (au) 3))), (0, .ref o), (1, .int (nI c9)), (2, .int x), (3, .int (b01 au))]) hx hb dX5_taxOf_11 hl (by decide) rfl (fun ls hl => ?_)
  refine lv_iload hx hb dX5_taxOf_13 (lv_at hl 0 rfl) ?_
  refine lv_if_gt (tgt := 22) hx hb dX5_taxOf_15 (by decide) (fun c15 => ?_) (fun c15 => ?_)
  · skip
    refine lv_iconst (v := 0) hx hb dX5_taxOf_22 (by decide) ?_
    refine lv_iload hx hb dX5_taxOf_23 (lv_at hl 0 rfl) ?_
    refine lv_bipush (v := 100) hx hb dX5_taxOf_25 (by decide) ?_
    refine lv_idiv hx hb dX5_taxOf_27 (by decide) ?_
    refine lv_aload_n hx hb dX5_taxOf_28 rfl (lv_at hl 1 rfl) ?_
    refine lv_iload_n hx hb dX5_taxOf_29 rfl (lv_at hl 2 rfl) ?_
    refine hv_callir (va_runV (As := [.int (nI c9)]) (rest := [.int ((o_dues (σ.2 0) x (o_counts (σ.2 0) c9 (au) 3)) / 100), .int 0]) ⟨hx, hb, hml, hown, hts⟩ (met_X5_carried l G hM c9 (hok) (show c9 < o_people (σ.2 0) by omega)) (cwV 1 hts (lw_V q2837 q2839 qs76 q106 q2840) rfl rfl rfl (by decide +kernel) ⟨Nat.le_of_ble_eq_true rfl, Nat.le_of_ble_eq_true rfl⟩) (hv_preV hw pk_X5 hM.1) rfl rfl hl.1 rfl (lv_room (Nat.le_of_ble_eq_true rfl)) dX5_taxOf_30 ⟨Nat.le_of_ble_eq_true rfl, Nat.le_of_ble_eq_true rfl⟩) hw (fun H locs hw => ?_)
    refine lv_isub hx hb dX5_taxOf_33 ?_
    refine va_mmax hx hb (hml.trans hl.1.symm) hown (hts _ q2804) (hts _ q536) (hts _ q113) (hts _ q537) (Nat.le_of_ble_eq_true rfl) (Nat.le_of_ble_eq_true rfl) (Nat.le_of_ble_eq_true rfl) (Nat.le_of_ble_eq_true rfl) dX5_taxOf_34 ?_
    refine lv_tope (y := mx 0 (((o_dues (σ.2 0) x (o_counts (σ.2 0) c9 (au) 3)) / 100) - (o_carried (σ.2 0) c9))) rfl ?_
    exact hret rfl hw ⟨by unfold o_tax; rw [if_neg (Int32.not_le.mpr c15)], rfl⟩ (Nat.le_of_ble_eq_true rfl) (Nat.le_of_ble_eq_true rfl) dX5_taxOf_37
  · skip
    refine lv_iconst (v := 0) hx hb dX5_taxOf_18 (by decide) ?_
    refine lv_goto (tgt := 37) hx hb dX5_taxOf_19 (by decide) ?_
    exact hret rfl hw ⟨by unfold o_tax; rw [if_pos (Int32.not_lt.mp c15)], rfl⟩ (Nat.le_of_ble_eq_true rfl) (Nat.le_of_ble_eq_true rfl) dX5_taxOf_37
