set_option maxRecDepth 100000
set_option maxHeartbeats 4000000 in
theorem met_X5_bracketLine (l : Launch) (G : hG) {h : hp} {o : Nat} {ma : Nat → Nat} {σ : MS} (hM : isMod G h o ma σ)  (hok : okI (σ.2 0)) (hB : okB (σ.2 0)) : mo_Mi l G yX5_bracketLine (ws_ yX5_bracketLine cX5_bracketLine 3 (Option.some Jvm.ClassFile.FieldType.int)) ({ frames := 2, cells := 0, slots := 0, locals := 46 } : Room) [.ref o] h o ma (nI (w_bks (σ.2 0) (σ.2 13, 0) (o_many (σ.2 0))).2) (mo_st (mo_nl (mo_st σ 15 0) (w_bks (σ.2 0) (σ.2 13, 0) (o_many (σ.2 0))).1) 14 (nI (w_bks (σ.2 0) (σ.2 13, 0) (o_many (σ.2 0))).2)) := by
  refine hv_bi .int (Or.inl rfl) (own := RX5) (by decide +kernel) rfl (Nat.le_of_ble_eq_true rfl) (fun p e s m a below meth c ls Q hx hb hml hown hts hnm hret hw hl => ?_)
  have hl : lv_has ls 3 [(0, .ref o)] := hl
  have hF : mo_fr o ma h h := mo_fr.rf
  have hmx : o_many (σ.2 0) ≤ 5 := hok.2.2.1
  have hpx : o_people (σ.2 0) ≤ 6 := hok.2.2.2.2.1
  refine lv_aload_n hx hb dX5_bracketLine_0 rfl (lv_at hl 0 rfl) ?_
  refine lv_iconst (v := 0) hx hb dX5_bracketLine_1 (by decide) ?_
  refine mo_put hx hb hts hown hw hM hF 15 (by decide) rfl q2569 rfl rfl rfl rfl dX5_bracketLine_2 (fun hh H locs hM hF hw => ?_)
  have hM : isMod G hh o ma (mo_nl (mo_st σ 15 0) ((σ.2 13, 0) : wR).1) := by show isMod G hh o ma (mo_nl (mo_st σ 15 0) ((mo_st σ 15 0).2 13)); rw [mo_nl_self]; exact hM
  have hub0 : ((σ.2 13, 0) : wR).2 ≤ 0 := Nat.le_refl _
  refine lv_iconst (v := 0) hx hb dX5_bracketLine_5 (by decide) ?_
  refine lv_istore_n (lv' := [(1, .int 0), (0, .ref o)]) hx hb dX5_bracketLine_6 rfl hl (by decide) rfl (fun ls hl => ?_)
  refine lv_iconst (v := 0) hx hb dX5_bracketLine_7 (by decide) ?_
  refine lv_istore_n (lv' := [(2, .int 0), (1, .int 0), (0, .ref o)]) hx hb dX5_bracketLine_8 rfl hl (by decide) rfl (fun ls hl => ?_)
  have LP9 : ∀ (n9 : Nat) (b : Nat) (hh : hp) (H : Heap) (locs : List Loc) (ls : Array Slot), o_many (σ.2 0) - b < n9 → b ≤ o_many (σ.2 0) → (w_bks (σ.2 0) (σ.2 13, 0) b).2 ≤ 9 * b → isMod G hh o ma (mo_nl (mo_st σ 15 0) (w_bks (σ.2 0) (σ.2 13, 0) b).1) → mo_fr o ma h hh → hv_W G s hh H locs → lv_has ls 3 [(2, .int (nI b)), (1, .int (nI (w_bks (σ.2 0) (σ.2 13, 0) b).2)), (0, .ref o)] → W p l e ({ frames := 2, cells := 0, slots := 0, locals := 46 } : Room) s m a below meth c H locs 0 0 Q (F0 m 9 ls []) := by
    intro n9
    induction n9 with
    | zero => exact fun b hh H locs ls hmu9 => absurd hmu9 (Nat.not_lt_zero _)
    | succ n9 ih9 =>
      intro b hh H locs ls hmu9 hbk hubk hM hF hw hl
      refine lv_iload_n hx hb dX5_bracketLine_9 rfl (lv_at hl 0 rfl) ?_
      refine lv_aload_n hx hb dX5_bracketLine_10 rfl (lv_at hl 2 rfl) ?_
      refine mo_get hx hb hts hown hw hM 0 (by decide) q2554 rfl (v := .ref (ma 0)) rfl dX5_bracketLine_11 ?_
      refine lv_iconst (v := 1) hx hb dX5_bracketLine_14 (by decide) ?_
      refine mo_ald hx hb hw hM 0 rfl (j := 1) rfl (show 1 < 137 by omega) dX5_bracketLine_15 ?_
      refine lv_tope (y := (mo_st σ 15 0).2 0 1) (rfl) ?_
      refine lv_icmp_ge (tgt := 69) hx hb dX5_bracketLine_16 (by decide) (fun c16 => ?_) (fun c16 => ?_)
      · skip
        have hbm : o_many (σ.2 0) ≤ b := cmp_le c16 hok.1 rfl (by omega) (by omega)
        obtain rfl : b = o_many (σ.2 0) := by omega
        refine lv_aload_n hx hb dX5_bracketLine_69 rfl (lv_at hl 2 rfl) ?_
        refine lv_iload_n hx hb dX5_bracketLine_70 rfl (lv_at hl 1 rfl) ?_
        refine mo_put hx hb hts hown hw hM hF 14 (by decide) rfl q2568 rfl rfl rfl rfl dX5_bracketLine_71 (fun hh H locs hM hF hw => ?_)
        refine lv_iload_n hx hb dX5_bracketLine_74 rfl (lv_at hl 1 rfl) ?_
        exact hret rfl hw ⟨rfl, hM, hF⟩ (Nat.le_of_ble_eq_true rfl) (Nat.le_of_ble_eq_true rfl) dX5_bracketLine_75
      · skip
        have hbm : b < o_many (σ.2 0) := cmp_nle c16 hok.1 rfl (by omega) (by omega)
        have hbb := hB b hbm
        have hbe := hbb.1.2
        have hbr := hbb.2.2
        refine lv_iload_n hx hb dX5_bracketLine_19 rfl (lv_at hl 0 rfl) ?_
        refine lv_if_ne (tgt := 27) hx hb dX5_bracketLine_20 (by decide) (fun c20 => ?_) (fun c20 => ?_)
        · skip
          refine lv_aload_n hx hb dX5_bracketLine_27 rfl (lv_at hl 2 rfl) ?_
          refine lv_iload_n hx hb dX5_bracketLine_28 rfl (lv_at hl 1 rfl) ?_
          refine lv_bipush (v := 32) hx hb dX5_bracketLine_29 (by decide) ?_
          have hub_1p : ((w_bks (σ.2 0) (σ.2 13, 0) b)).2 ≤ 9 * b := by assumption
          refine mo_calli (va_runV (As := [.int (nI (w_bks (σ.2 0) (σ.2 13, 0) b).2), .int 32]) (rest := []) ⟨hx, hb, hml, hown, hts⟩ (met_X5_put l G hM (w_bks (σ.2 0) (σ.2 13, 0) b).2 32 (show (w_bks (σ.2 0) (σ.2 13, 0) b).2 < 80 by omega)) (cwV 2 hts (lw_V q2926 q2928 qs82 q106 q2929) rfl rfl rfl (by decide +kernel) ⟨Nat.le_of_ble_eq_true rfl, Nat.le_of_ble_eq_true rfl⟩) (hv_preV hw pk_X5 hM.1) rfl rfl hl.1 rfl (lv_room (Nat.le_of_ble_eq_true rfl)) dX5_bracketLine_31 ⟨Nat.le_of_ble_eq_true rfl, Nat.le_of_ble_eq_true rfl⟩) hw hF (fun hh H locs hM hF hw => ?_)
          rw [mo_nl_ch] at hM
          have hub_1 : (w_ch (w_bks (σ.2 0) (σ.2 13, 0) b) 32).2 ≤ 9 * b + 1 := by rw [w_ch_2]; omega
          have hM : isMod G hh o ma (mo_nl (mo_st σ 15 0) (w_ch (w_bks (σ.2 0) (σ.2 13, 0) b) 32).1) := hM
          have hb0 : ¬ b = 0 := cmp_ne (b := 0) c20 rfl rfl
          have eP : w_ch (w_bks (σ.2 0) (σ.2 13, 0) b) 32 = (if b = 0 then (w_bks (σ.2 0) (σ.2 13, 0) b) else w_ch (w_bks (σ.2 0) (σ.2 13, 0) b) 32) := (if_neg hb0).symm
          have hubb : (if b = 0 then (w_bks (σ.2 0) (σ.2 13, 0) b) else w_ch (w_bks (σ.2 0) (σ.2 13, 0) b) 32).2 ≤ 9 * b + 1 := by rw [← eP]; assumption
          have hM : isMod G hh o ma (mo_nl (mo_st σ 15 0) (if b = 0 then (w_bks (σ.2 0) (σ.2 13, 0) b) else w_ch (w_bks (σ.2 0) (σ.2 13, 0) b) 32).1) := by rw [← eP]; exact hM
          refine lv_tope (y := nI (if b = 0 then (w_bks (σ.2 0) (σ.2 13, 0) b) else w_ch (w_bks (σ.2 0) (σ.2 13, 0) b) 32).2) (by rw [← eP]; rfl) ?_
          refine lv_istore_n (lv' := [(1, .int (nI (if b = 0 then (w_bks (σ.2 0) (σ.2 13, 0) b) else w_ch (w_bks (σ.2 0) (σ.2 13, 0) b) 32).2)), (2, .int (nI b)), (0, .ref o)]) hx hb dX5_bracketLine_34 rfl hl (by decide) rfl (fun ls hl => ?_)
          refine lv_aload_n hx hb dX5_bracketLine_35 rfl (lv_at hl 2 rfl) ?_
          refine lv_aload_n hx hb dX5_bracketLine_36 rfl (lv_at hl 2 rfl) ?_
          refine lv_iload_n hx hb dX5_bracketLine_37 rfl (lv_at hl 0 rfl) ?_
          refine lv_aload_n hx hb dX5_bracketLine_38 rfl (lv_at hl 2 rfl) ?_
          refine lv_iload_n hx hb dX5_bracketLine_39 rfl (lv_at hl 1 rfl) ?_
          refine hv_callir (va_runV (As := [.int (nI b)]) (rest := [.int (nI (if b = 0 then (w_bks (σ.2 0) (σ.2 13, 0) b) else w_ch (w_bks (σ.2 0) (σ.2 13, 0) b) 32).2), .ref o, .ref o]) ⟨hx, hb, hml, hown, hts⟩ (met_X5_edge l G hM b (by omega)) (cwV 1 hts (lw_V q2673 q2675 qs49 q106 q2676) rfl rfl rfl (by decide +kernel) ⟨Nat.le_of_ble_eq_true rfl, Nat.le_of_ble_eq_true rfl⟩) (hv_preV hw pk_X5 hM.1) rfl rfl hl.1 rfl (lv_room (Nat.le_of_ble_eq_true rfl)) dX5_bracketLine_40 ⟨Nat.le_of_ble_eq_true rfl, Nat.le_of_ble_eq_true rfl⟩) hw (fun H locs hw => ?_)
          refine lv_tope (y := nI (o_n (σ.2 0 (13 + 2 * b)))) (hbb.1.1) ?_
          have hub_2p : ((if b = 0 then (w_bks (σ.2 0) (σ.2 13, 0) b) else w_ch (w_bks (σ.2 0) (σ.2 13, 0) b) 32)).2 ≤ 9 * b + 1 := by assumption
          have hub_2d : d_hi (o_n (σ.2 0 (13 + 2 * b))) ≤ 3 := d_hi_4 (by omega)
          refine mo_calli (va_runV (As := [.int (nI (if b = 0 then (w_bks (σ.2 0) (σ.2 13, 0) b) else w_ch (w_bks (σ.2 0) (σ.2 13, 0) b) 32).2), .int (nI (o_n (σ.2 0 (13 + 2 * b))))]) (rest := [.ref o]) ⟨hx, hb, hml, hown, hts⟩ (met_X5_writesNumber l G hM (if b = 0 then (w_bks (σ.2 0) (σ.2 13, 0) b) else w_ch (w_bks (σ.2 0) (σ.2 13, 0) b) 32).2 (o_n (σ.2 0 (13 + 2 * b))) (by omega) (show (if b = 0 then (w_bks (σ.2 0) (σ.2 13, 0) b) else w_ch (w_bks (σ.2 0) (σ.2 13, 0) b) 32).2 + d_hi (o_n (σ.2 0 (13 + 2 * b))) + 1 ≤ 80 by omega)) (cwV 2 hts (lw_V q2922 q2924 qs81 q106 q2925) rfl rfl rfl (by decide +kernel) ⟨Nat.le_of_ble_eq_true rfl, Nat.le_of_ble_eq_true rfl⟩) (hv_preV hw pk_X5 hM.1) rfl rfl hl.1 rfl (lv_room (Nat.le_of_ble_eq_true rfl)) dX5_bracketLine_43 ⟨Nat.le_of_ble_eq_true rfl, Nat.le_of_ble_eq_true rfl⟩) hw hF (fun hh H locs hM hF hw => ?_)
          rw [mo_nl_nm] at hM
          have hub_2 : (w_num (if b = 0 then (w_bks (σ.2 0) (σ.2 13, 0) b) else w_ch (w_bks (σ.2 0) (σ.2 13, 0) b) 32) (o_n (σ.2 0 (13 + 2 * b)))).2 ≤ 9 * b + 1 + 4 := by rw [w_num_2]; omega
          have hM : isMod G hh o ma (mo_nl (mo_st σ 15 0) (w_num (if b = 0 then (w_bks (σ.2 0) (σ.2 13, 0) b) else w_ch (w_bks (σ.2 0) (σ.2 13, 0) b) 32) (o_n (σ.2 0 (13 + 2 * b)))).1) := hM
          refine lv_bipush (v := 58) hx hb dX5_bracketLine_46 (by decide) ?_
          have hub_3p : (w_num (if b = 0 then (w_bks (σ.2 0) (σ.2 13, 0) b) else w_ch (w_bks (σ.2 0) (σ.2 13, 0) b) 32) (o_n (σ.2 0 (13 + 2 * b)))).2 ≤ 9 * b + 1 + 4 := by assumption
          refine mo_calli (va_runV (As := [.int (nI (w_num (if b = 0 then (w_bks (σ.2 0) (σ.2 13, 0) b) else w_ch (w_bks (σ.2 0) (σ.2 13, 0) b) 32) (o_n (σ.2 0 (13 + 2 * b)))).2), .int 58]) (rest := []) ⟨hx, hb, hml, hown, hts⟩ (met_X5_put l G hM (w_num (if b = 0 then (w_bks (σ.2 0) (σ.2 13, 0) b) else w_ch (w_bks (σ.2 0) (σ.2 13, 0) b) 32) (o_n (σ.2 0 (13 + 2 * b)))).2 58 (show (w_num (if b = 0 then (w_bks (σ.2 0) (σ.2 13, 0) b) else w_ch (w_bks (σ.2 0) (σ.2 13, 0) b) 32) (o_n (σ.2 0 (13 + 2 * b)))).2 < 80 by omega)) (cwV 2 hts (lw_V q2926 q2928 qs82 q106 q2929) rfl rfl rfl (by decide +kernel) ⟨Nat.le_of_ble_eq_true rfl, Nat.le_of_ble_eq_true rfl⟩) (hv_preV hw pk_X5 hM.1) rfl rfl hl.1 rfl (lv_room (Nat.le_of_ble_eq_true rfl)) dX5_bracketLine_48 ⟨Nat.le_of_ble_eq_true rfl, Nat.le_of_ble_eq_true rfl⟩) hw hF (fun hh H locs hM hF hw => ?_)
          rw [mo_nl_ch] at hM
          have hub_3 : (w_ch (w_num (if b = 0 then (w_bks (σ.2 0) (σ.2 13, 0) b) else w_ch (w_bks (σ.2 0) (σ.2 13, 0) b) 32) (o_n (σ.2 0 (13 + 2 * b)))) 58).2 ≤ 9 * b + 1 + 4 + 1 := by rw [w_ch_2]; omega
          have hM : isMod G hh o ma (mo_nl (mo_st σ 15 0) (w_ch (w_num (if b = 0 then (w_bks (σ.2 0) (σ.2 13, 0) b) else w_ch (w_bks (σ.2 0) (σ.2 13, 0) b) 32) (o_n (σ.2 0 (13 + 2 * b)))) 58).1) := hM
          refine lv_istore_n (lv' := [(1, .int (nI (w_ch (w_num (if b = 0 then (w_bks (σ.2 0) (σ.2 13, 0) b) else w_ch (w_bks (σ.2 0) (σ.2 13, 0) b) 32) (o_n (σ.2 0 (13 + 2 * b)))) 58).2)), (2, .int (nI b)), (0, .ref o)]) hx hb dX5_bracketLine_51 rfl hl (by decide) rfl (fun ls hl => ?_)
          refine lv_aload_n hx hb dX5_bracketLine_52 rfl (lv_at hl 2 rfl) ?_
          refine lv_iload_n hx hb dX5_bracketLine_53 rfl (lv_at hl 0 rfl) ?_
          refine lv_aload_n hx hb dX5_bracketLine_54 rfl (lv_at hl 2 rfl) ?_
          refine lv_iload_n hx hb dX5_bracketLine_55 rfl (lv_at hl 1 rfl) ?_
          refine hv_callir (va_runV (As := [.int (nI b)]) (rest := [.int (nI (w_ch (w_num (if b = 0 then (w_bks (σ.2 0) (σ.2 13, 0) b) else w_ch (w_bks (σ.2 0) (σ.2 13, 0) b) 32) (o_n (σ.2 0 (13 + 2 * b)))) 58).2), .ref o]) ⟨hx, hb, hml, hown, hts⟩ (met_X5_rateOf l G hM b (by omega)) (cwV 1 hts (lw_V q2697 q2699 qs54 q106 q2700) rfl rfl rfl (by decide +kernel) ⟨Nat.le_of_ble_eq_true rfl, Nat.le_of_ble_eq_true rfl⟩) (hv_preV hw pk_X5 hM.1) rfl rfl hl.1 rfl (lv_room (Nat.le_of_ble_eq_true rfl)) dX5_bracketLine_56 ⟨Nat.le_of_ble_eq_true rfl, Nat.le_of_ble_eq_true rfl⟩) hw (fun H locs hw => ?_)
          refine lv_tope (y := nI (o_n (σ.2 0 (13 + 2 * b + 1)))) (hbb.2.1) ?_
          have hub_4p : (w_ch (w_num (if b = 0 then (w_bks (σ.2 0) (σ.2 13, 0) b) else w_ch (w_bks (σ.2 0) (σ.2 13, 0) b) 32) (o_n (σ.2 0 (13 + 2 * b)))) 58).2 ≤ 9 * b + 1 + 4 + 1 := by assumption
          have hub_4d : d_hi (o_n (σ.2 0 (13 + 2 * b + 1))) ≤ 1 := d_hi_100 (by omega)
          refine mo_calli (va_runV (As := [.int (nI (w_ch (w_num (if b = 0 then (w_bks (σ.2 0) (σ.2 13, 0) b) else w_ch (w_bks (σ.2 0) (σ.2 13, 0) b) 32) (o_n (σ.2 0 (13 + 2 * b)))) 58).2), .int (nI (o_n (σ.2 0 (13 + 2 * b + 1))))]) (rest := []) ⟨hx, hb, hml, hown, hts⟩ (met_X5_writesNumber l G hM (w_ch (w_num (if b = 0 then (w_bks (σ.2 0) (σ.2 13, 0) b) else w_ch (w_bks (σ.2 0) (σ.2 13, 0) b) 32) (o_n (σ.2 0 (13 + 2 * b)))) 58).2 (o_n (σ.2 0 (13 + 2 * b + 1))) (by omega) (show (w_ch (w_num (if b = 0 then (w_bks (σ.2 0) (σ.2 13, 0) b) else w_ch (w_bks (σ.2 0) (σ.2 13, 0) b) 32) (o_n (σ.2 0 (13 + 2 * b)))) 58).2 + d_hi (o_n (σ.2 0 (13 + 2 * b + 1))) + 1 ≤ 80 by omega)) (cwV 2 hts (lw_V q2922 q2924 qs81 q106 q2925) rfl rfl rfl (by decide +kernel) ⟨Nat.le_of_ble_eq_true rfl, Nat.le_of_ble_eq_true rfl⟩) (hv_preV hw pk_X5 hM.1) rfl rfl hl.1 rfl (lv_room (Nat.le_of_ble_eq_true rfl)) dX5_bracketLine_59 ⟨Nat.le_of_ble_eq_true rfl, Nat.le_of_ble_eq_true rfl⟩) hw hF (fun hh H locs hM hF hw => ?_)
          rw [mo_nl_nm] at hM
          have hub_4 : (w_num (w_ch (w_num (if b = 0 then (w_bks (σ.2 0) (σ.2 13, 0) b) else w_ch (w_bks (σ.2 0) (σ.2 13, 0) b) 32) (o_n (σ.2 0 (13 + 2 * b)))) 58) (o_n (σ.2 0 (13 + 2 * b + 1)))).2 ≤ 9 * b + 1 + 4 + 1 + 2 := by rw [w_num_2]; omega
          have hM : isMod G hh o ma (mo_nl (mo_st σ 15 0) (w_num (w_ch (w_num (if b = 0 then (w_bks (σ.2 0) (σ.2 13, 0) b) else w_ch (w_bks (σ.2 0) (σ.2 13, 0) b) 32) (o_n (σ.2 0 (13 + 2 * b)))) 58) (o_n (σ.2 0 (13 + 2 * b + 1)))).1) := hM
          refine lv_istore_n (lv' := [(1, .int (nI (w_num (w_ch (w_num (if b = 0 then (w_bks (σ.2 0) (σ.2 13, 0) b) else w_ch (w_bks (σ.2 0) (σ.2 13, 0) b) 32) (o_n (σ.2 0 (13 + 2 * b)))) 58) (o_n (σ.2 0 (13 + 2 * b + 1)))).2)), (2, .int (nI b)), (0, .ref o)]) hx hb dX5_bracketLine_62 rfl hl (by decide) rfl (fun ls hl => ?_)
          refine lv_iinc (v := nI (b + 1)) (lv' := [(2, .int (nI (b + 1))), (1, .int (nI (w_num (w_ch (w_num (if b = 0 then (w_bks (σ.2 0) (σ.2 13, 0) b) else w_ch (w_bks (σ.2 0) (σ.2 13, 0) b) 32) (o_n (σ.2 0 (13 + 2 * b)))) 58) (o_n (σ.2 0 (13 + 2 * b + 1)))).2)), (0, .ref o)]) hx hb dX5_bracketLine_63 hl (k := 1) rfl (by simp only [nI, Int32.ofNat_add] <;> rfl) (by decide) rfl (fun ls hl => ?_)
          refine lv_goto (tgt := 9) hx hb dX5_bracketLine_66 (by decide) ?_
          exact ih9 (b + 1) _ _ _ _ (by omega) (by omega) (by rw [w_bks]; omega) hM hF hw (lv_sub hl [0, 1, 2] rfl)
        · skip
          refine lv_iload_n hx hb dX5_bracketLine_23 rfl (lv_at hl 1 rfl) ?_
          refine lv_goto (tgt := 34) hx hb dX5_bracketLine_24 (by decide) ?_
          have hb0 : b = 0 := cmp_eq (b := 0) c20 rfl rfl (by omega) (by omega)
          have eP : (w_bks (σ.2 0) (σ.2 13, 0) b) = (if b = 0 then (w_bks (σ.2 0) (σ.2 13, 0) b) else w_ch (w_bks (σ.2 0) (σ.2 13, 0) b) 32) := (if_pos hb0).symm
          have hubb : (if b = 0 then (w_bks (σ.2 0) (σ.2 13, 0) b) else w_ch (w_bks (σ.2 0) (σ.2 13, 0) b) 32).2 ≤ 9 * b + 1 := by rw [← eP]; omega
          have hM : isMod G hh o ma (mo_nl (mo_st σ 15 0) (if b = 0 then (w_bks (σ.2 0) (σ.2 13, 0) b) else w_ch (w_bks (σ.2 0) (σ.2 13, 0) b) 32).1) := by rw [← eP]; exact hM
          refine lv_tope (y := nI (if b = 0 then (w_bks (σ.2 0) (σ.2 13, 0) b) else w_ch (w_bks (σ.2 0) (σ.2 13, 0) b) 32).2) (by rw [← eP]) ?_
          refine lv_istore_n (lv' := [(1, .int (nI (if b = 0 then (w_bks (σ.2 0) (σ.2 13, 0) b) else w_ch (w_bks (σ.2 0) (σ.2 13, 0) b) 32).2)), (2, .int (nI b)), (0, .ref o)]) hx hb dX5_bracketLine_34 rfl hl (by decide) rfl (fun ls hl => ?_)
          refine lv_aload_n hx hb dX5_bracketLine_35 rfl (lv_at hl 2 rfl) ?_
          refine lv_aload_n hx hb dX5_bracketLine_36 rfl (lv_at hl 2 rfl) ?_
          refine lv_iload_n hx hb dX5_bracketLine_37 rfl (lv_at hl 0 rfl) ?_
          refine lv_aload_n hx hb dX5_bracketLine_38 rfl (lv_at hl 2 rfl) ?_
          refine lv_iload_n hx hb dX5_bracketLine_39 rfl (lv_at hl 1 rfl) ?_
          refine hv_callir (va_runV (As := [.int (nI b)]) (rest := [.int (nI (if b = 0 then (w_bks (σ.2 0) (σ.2 13, 0) b) else w_ch (w_bks (σ.2 0) (σ.2 13, 0) b) 32).2), .ref o, .ref o]) ⟨hx, hb, hml, hown, hts⟩ (met_X5_edge l G hM b (by omega)) (cwV 1 hts (lw_V q2673 q2675 qs49 q106 q2676) rfl rfl rfl (by decide +kernel) ⟨Nat.le_of_ble_eq_true rfl, Nat.le_of_ble_eq_true rfl⟩) (hv_preV hw pk_X5 hM.1) rfl rfl hl.1 rfl (lv_room (Nat.le_of_ble_eq_true rfl)) dX5_bracketLine_40 ⟨Nat.le_of_ble_eq_true rfl, Nat.le_of_ble_eq_true rfl⟩) hw (fun H locs hw => ?_)
          refine lv_tope (y := nI (o_n (σ.2 0 (13 + 2 * b)))) (hbb.1.1) ?_
          have hub_5p : ((if b = 0 then (w_bks (σ.2 0) (σ.2 13, 0) b) else w_ch (w_bks (σ.2 0) (σ.2 13, 0) b) 32)).2 ≤ 9 * b + 1 := by assumption
          have hub_5d : d_hi (o_n (σ.2 0 (13 + 2 * b))) ≤ 3 := d_hi_4 (by omega)
          refine mo_calli (va_runV (As := [.int (nI (if b = 0 then (w_bks (σ.2 0) (σ.2 13, 0) b) else w_ch (w_bks (σ.2 0) (σ.2 13, 0) b) 32).2), .int (nI (o_n (σ.2 0 (13 + 2 * b))))]) (rest := [.ref o]) ⟨hx, hb, hml, hown, hts⟩ (met_X5_writesNumber l G hM (if b = 0 then (w_bks (σ.2 0) (σ.2 13, 0) b) else w_ch (w_bks (σ.2 0) (σ.2 13, 0) b) 32).2 (o_n (σ.2 0 (13 + 2 * b))) (by omega) (show (if b = 0 then (w_bks (σ.2 0) (σ.2 13, 0) b) else w_ch (w_bks (σ.2 0) (σ.2 13, 0) b) 32).2 + d_hi (o_n (σ.2 0 (13 + 2 * b))) + 1 ≤ 80 by omega)) (cwV 2 hts (lw_V q2922 q2924 qs81 q106 q2925) rfl rfl rfl (by decide +kernel) ⟨Nat.le_of_ble_eq_true rfl, Nat.le_of_ble_eq_true rfl⟩) (hv_preV hw pk_X5 hM.1) rfl rfl hl.1 rfl (lv_room (Nat.le_of_ble_eq_true rfl)) dX5_bracketLine_43 ⟨Nat.le_of_ble_eq_true rfl, Nat.le_of_ble_eq_true rfl⟩) hw hF (fun hh H locs hM hF hw => ?_)
          rw [mo_nl_nm] at hM
          have hub_5 : (w_num (if b = 0 then (w_bks (σ.2 0) (σ.2 13, 0) b) else w_ch (w_bks (σ.2 0) (σ.2 13, 0) b) 32) (o_n (σ.2 0 (13 + 2 * b)))).2 ≤ 9 * b + 1 + 4 := by rw [w_num_2]; omega
          have hM : isMod G hh o ma (mo_nl (mo_st σ 15 0) (w_num (if b = 0 then (w_bks (σ.2 0) (σ.2 13, 0) b) else w_ch (w_bks (σ.2 0) (σ.2 13, 0) b) 32) (o_n (σ.2 0 (13 + 2 * b)))).1) := hM
          refine lv_bipush (v := 58) hx hb dX5_bracketLine_46 (by decide) ?_
          have hub_6p : (w_num (if b = 0 then (w_bks (σ.2 0) (σ.2 13, 0) b) else w_ch (w_bks (σ.2 0) (σ.2 13, 0) b) 32) (o_n (σ.2 0 (13 + 2 * b)))).2 ≤ 9 * b + 1 + 4 := by assumption
          refine mo_calli (va_runV (As := [.int (nI (w_num (if b = 0 then (w_bks (σ.2 0) (σ.2 13, 0) b) else w_ch (w_bks (σ.2 0) (σ.2 13, 0) b) 32) (o_n (σ.2 0 (13 + 2 * b)))).2), .int 58]) (rest := []) ⟨hx, hb, hml, hown, hts⟩ (met_X5_put l G hM (w_num (if b = 0 then (w_bks (σ.2 0) (σ.2 13, 0) b) else w_ch (w_bks (σ.2 0) (σ.2 13, 0) b) 32) (o_n (σ.2 0 (13 + 2 * b)))).2 58 (show (w_num (if b = 0 then (w_bks (σ.2 0) (σ.2 13, 0) b) else w_ch (w_bks (σ.2 0) (σ.2 13, 0) b) 32) (o_n (σ.2 0 (13 + 2 * b)))).2 < 80 by omega)) (cwV 2 hts (lw_V q2926 q2928 qs82 q106 q2929) rfl rfl rfl (by decide +kernel) ⟨Nat.le_of_ble_eq_true rfl, Nat.le_of_ble_eq_true rfl⟩) (hv_preV hw pk_X5 hM.1) rfl rfl hl.1 rfl (lv_room (Nat.le_of_ble_eq_true rfl)) dX5_bracketLine_48 ⟨Nat.le_of_ble_eq_true rfl, Nat.le_of_ble_eq_true rfl⟩) hw hF (fun hh H locs hM hF hw => ?_)
          rw [mo_nl_ch] at hM
          have hub_6 : (w_ch (w_num (if b = 0 then (w_bks (σ.2 0) (σ.2 13, 0) b) else w_ch (w_bks (σ.2 0) (σ.2 13, 0) b) 32) (o_n (σ.2 0 (13 + 2 * b)))) 58).2 ≤ 9 * b + 1 + 4 + 1 := by rw [w_ch_2]; omega
          have hM : isMod G hh o ma (mo_nl (mo_st σ 15 0) (w_ch (w_num (if b = 0 then (w_bks (σ.2 0) (σ.2 13, 0) b) else w_ch (w_bks (σ.2 0) (σ.2 13, 0) b) 32) (o_n (σ.2 0 (13 + 2 * b)))) 58).1) := hM
          refine lv_istore_n (lv' := [(1, .int (nI (w_ch (w_num (if b = 0 then (w_bks (σ.2 0) (σ.2 13, 0) b) else w_ch (w_bks (σ.2 0) (σ.2 13, 0) b) 32) (o_n (σ.2 0 (13 + 2 * b)))) 58).2)), (2, .int (nI b)), (0, .ref o)]) hx hb dX5_bracketLine_51 rfl hl (by decide) rfl (fun ls hl => ?_)
          refine lv_aload_n hx hb dX5_bracketLine_52 rfl (lv_at hl 2 rfl) ?_
          refine lv_iload_n hx hb dX5_bracketLine_53 rfl (lv_at hl 0 rfl) ?_
          refine lv_aload_n hx hb dX5_bracketLine_54 rfl (lv_at hl 2 rfl) ?_
          refine lv_iload_n hx hb dX5_bracketLine_55 rfl (lv_at hl 1 rfl) ?_
          refine hv_callir (va_runV (As := [.int (nI b)]) (rest := [.int (nI (w_ch (w_num (if b = 0 then (w_bks (σ.2 0) (σ.2 13, 0) b) else w_ch (w_bks (σ.2 0) (σ.2 13, 0) b) 32) (o_n (σ.2 0 (13 + 2 * b)))) 58).2), .ref o]) ⟨hx, hb, hml, hown, hts⟩ (met_X5_rateOf l G hM b (by omega)) (cwV 1 hts (lw_V q2697 q2699 qs54 q106 q2700) rfl rfl rfl (by decide +kernel) ⟨Nat.le_of_ble_eq_true rfl, Nat.le_of_ble_eq_true rfl⟩) (hv_preV hw pk_X5 hM.1) rfl rfl hl.1 rfl (lv_room (Nat.le_of_ble_eq_true rfl)) dX5_bracketLine_56 ⟨Nat.le_of_ble_eq_true rfl, Nat.le_of_ble_eq_true rfl⟩) hw (fun H locs hw => ?_)
          refine lv_tope (y := nI (o_n (σ.2 0 (13 + 2 * b + 1)))) (hbb.2.1) ?_
          have hub_7p : (w_ch (w_num (if b = 0 then (w_bks (σ.2 0) (σ.2 13, 0) b) else w_ch (w_bks (σ.2 0) (σ.2 13, 0) b) 32) (o_n (σ.2 0 (13 + 2 * b)))) 58).2 ≤ 9 * b + 1 + 4 + 1 := by assumption
          have hub_7d : d_hi (o_n (σ.2 0 (13 + 2 * b + 1))) ≤ 1 := d_hi_100 (by omega)
          refine mo_calli (va_runV (As := [.int (nI (w_ch (w_num (if b = 0 then (w_bks (σ.2 0) (σ.2 13, 0) b) else w_ch (w_bks (σ.2 0) (σ.2 13, 0) b) 32) (o_n (σ.2 0 (13 + 2 * b)))) 58).2), .int (nI (o_n (σ.2 0 (13 + 2 * b + 1))))]) (rest := []) ⟨hx, hb, hml, hown, hts⟩ (met_X5_writesNumber l G hM (w_ch (w_num (if b = 0 then (w_bks (σ.2 0) (σ.2 13, 0) b) else w_ch (w_bks (σ.2 0) (σ.2 13, 0) b) 32) (o_n (σ.2 0 (13 + 2 * b)))) 58).2 (o_n (σ.2 0 (13 + 2 * b + 1))) (by omega) (show (w_ch (w_num (if b = 0 then (w_bks (σ.2 0) (σ.2 13, 0) b) else w_ch (w_bks (σ.2 0) (σ.2 13, 0) b) 32) (o_n (σ.2 0 (13 + 2 * b)))) 58).2 + d_hi (o_n (σ.2 0 (13 + 2 * b + 1))) + 1 ≤ 80 by omega)) (cwV 2 hts (lw_V q2922 q2924 qs81 q106 q2925) rfl rfl rfl (by decide +kernel) ⟨Nat.le_of_ble_eq_true rfl, Nat.le_of_ble_eq_true rfl⟩) (hv_preV hw pk_X5 hM.1) rfl rfl hl.1 rfl (lv_room (Nat.le_of_ble_eq_true rfl)) dX5_bracketLine_59 ⟨Nat.le_of_ble_eq_true rfl, Nat.le_of_ble_eq_true rfl⟩) hw hF (fun hh H locs hM hF hw => ?_)
          rw [mo_nl_nm] at hM
          have hub_7 : (w_num (w_ch (w_num (if b = 0 then (w_bks (σ.2 0) (σ.2 13, 0) b) else w_ch (w_bks (σ.2 0) (σ.2 13, 0) b) 32) (o_n (σ.2 0 (13 + 2 * b)))) 58) (o_n (σ.2 0 (13 + 2 * b + 1)))).2 ≤ 9 * b + 1 + 4 + 1 + 2 := by rw [w_num_2]; omega
          have hM : isMod G hh o ma (mo_nl (mo_st σ 15 0) (w_num (w_ch (w_num (if b = 0 then (w_bks (σ.2 0) (σ.2 13, 0) b) else w_ch (w_bks (σ.2 0) (σ.2 13, 0) b) 32) (o_n (σ.2 0 (13 + 2 * b)))) 58) (o_n (σ.2 0 (13 + 2 * b + 1)))).1) := hM
          refine lv_istore_n (lv' := [(1, .int (nI (w_num (w_ch (w_num (if b = 0 then (w_bks (σ.2 0) (σ.2 13, 0) b) else w_ch (w_bks (σ.2 0) (σ.2 13, 0) b) 32) (o_n (σ.2 0 (13 + 2 * b)))) 58) (o_n (σ.2 0 (13 + 2 * b + 1)))).2)), (2, .int (nI b)), (0, .ref o)]) hx hb dX5_bracketLine_62 rfl hl (by decide) rfl (fun ls hl => ?_)
          refine lv_iinc (v := nI (b + 1)) (lv' := [(2, .int (nI (b + 1))), (1, .int (nI (w_num (w_ch (w_num (if b = 0 then (w_bks (σ.2 0) (σ.2 13, 0) b) else w_ch (w_bks (σ.2 0) (σ.2 13, 0) b) 32) (o_n (σ.2 0 (13 + 2 * b)))) 58) (o_n (σ.2 0 (13 + 2 * b + 1)))).2)), (0, .ref o)]) hx hb dX5_bracketLine_63 hl (k := 1) rfl (by simp only [nI, Int32.ofNat_add] <;> rfl) (by decide) rfl (fun ls hl => ?_)
          refine lv_goto (tgt := 9) hx hb dX5_bracketLine_66 (by decide) ?_
          exact ih9 (b + 1) _ _ _ _ (by omega) (by omega) (by rw [w_bks]; omega) hM hF hw (lv_sub hl [0, 1, 2] rfl)
  exact LP9 _ 0 _ _ _ _ (Nat.lt_succ_self _) (by omega) (Nat.le_refl _) hM hF hw (lv_sub hl [0, 1, 2] rfl)
set_option maxHeartbeats 400000 in
theorem met_X5_character (l : Launch) (G : hG) {h : hp} {o : Nat} {ma : Nat → Nat} {σ : MS} {n9 : Nat} (hM : isMod G h o ma σ) (x : Int32) (h14 : σ.1 14 = nI n9) (hn8 : n9 ≤ 80) : mo_Mi l G yX5_character (ws_ yX5_character cX5_character 2 (Option.some Jvm.ClassFile.FieldType.char)) ({ frames := 1, cells := 0, slots := 0, locals := 22 } : Room) [.ref o, .int x] h o ma (if 0 ≤ x ∧ x ≤ nI n9 - 1 then ((σ.2 13 (o_n x)).toUInt32 % 65536).toInt32 else 0) (mo_st σ 15 (b01 (¬ (0 ≤ x ∧ x ≤ nI n9 - 1)))) := by
  refine hv_bi .char (Or.inr (Or.inr rfl)) (own := RX5) (by decide +kernel) rfl (Nat.le_of_ble_eq_true rfl) (fun p e s m a below meth c ls Q hx hb hml hown hts hnm hret hw hl => ?_)
  have hl : lv_has ls 2 [(0, .ref o), (1, .int x)] := hl
  have hF : mo_fr o ma h h := mo_fr.rf
  refine lv_aload_n hx hb dX5_character_0 rfl (lv_at hl 0 rfl) ?_
  refine lv_iload_n hx hb dX5_character_1 rfl (lv_at hl 1 rfl) ?_
  refine lv_iconst (v := 0) hx hb dX5_character_2 (by decide) ?_
  refine lv_aload_n hx hb dX5_character_3 rfl (lv_at hl 0 rfl) ?_
  refine mo_get hx hb hts hown hw hM 14 (by decide) q2568 rfl (v := .int (σ.1 14)) rfl dX5_character_4 ?_
  refine lv_tope (y := nI n9) (h14) ?_
  refine lv_iconst (v := 1) hx hb dX5_character_7 (by decide) ?_
  refine lv_isub hx hb dX5_character_8 ?_
  refine hv_callir (va_runS (As := [.int x, .int 0, .int ((nI n9) - 1)]) (rest := [.ref o]) ⟨hx, hb, hml, hown, hts⟩ (met_X5_isIn l G x 0 ((nI n9) - 1) ) (va_cwS 3 hts (lw_S q2666 q2667 q106 q2668) rfl rfl rfl (by decide +kernel) ⟨Nat.le_of_ble_eq_true rfl, Nat.le_of_ble_eq_true rfl⟩) (hv_preS hw) rfl rfl hl.1 rfl (lv_room (Nat.le_of_ble_eq_true rfl)) dX5_character_9 ⟨Nat.le_of_ble_eq_true rfl, Nat.le_of_ble_eq_true rfl⟩) hw (fun H locs hw => ?_)
  refine lv_mat1 (P := (b01 (0 ≤ x ∧ x ≤ ((nI n9) - 1))) = 0) (j := 20) (fun k1 k2 => lv_if_eq (tgt := 19) hx hb dX5_character_12 (by decide) (fun c => lv_iconst (v := 1) hx hb dX5_character_19 (by decide) (k1 c)) (fun c => lv_iconst (v := 0) hx hb dX5_character_15 (by decide) (lv_goto (tgt := 20) hx hb dX5_character_16 (by decide) (k2 c)))) ?_
  refine lv_tope (y := b01 (¬ (0 ≤ x ∧ x ≤ ((nI n9) - 1)))) (b01_c b01_0) ?_
  refine mo_put hx hb hts hown hw hM hF 15 (by decide) rfl q2569 rfl rfl rfl rfl dX5_character_20 (fun hh H locs hM hF hw => ?_)
  by_cases hA : 0 ≤ x ∧ x ≤ nI n9 - 1
  · skip
    obtain ⟨j9, hj9, rfl⟩ := o_ix hA rfl (by omega)
    refine lv_aload_n hx hb dX5_character_23 rfl (lv_at hl 0 rfl) ?_
    refine mo_get hx hb hts hown hw hM 15 (by decide) q2569 rfl (v := .int (b01 (¬ (0 ≤ (nI j9) ∧ (nI j9) ≤ ((nI n9) - 1))))) rfl dX5_character_24 ?_
    refine lv_if_ne (tgt := 40) hx hb dX5_character_27 (by decide) (fun c27 => absurd (b01_f (fun y => y hA)) c27) (fun c27 => ?_)
    have c27 : ¬ (¬ (0 ≤ (nI j9) ∧ (nI j9) ≤ ((nI n9) - 1))) := b01_0.mp c27
    refine lv_aload_n hx hb dX5_character_30 rfl (lv_at hl 0 rfl) ?_
    refine mo_get hx hb hts hown hw hM 13 (by decide) q2567 rfl (v := .ref (ma 13)) rfl dX5_character_31 ?_
    refine lv_iload_n hx hb dX5_character_34 rfl (lv_at hl 1 rfl) ?_
    refine mo_ald hx hb hw hM 13 rfl (j := j9) rfl (show j9 < 80 by omega) dX5_character_35 ?_
    refine lv_i2c hx hb dX5_character_36 rfl ?_
    refine lv_goto (tgt := 41) hx hb dX5_character_37 (by decide) ?_
    exact hret (nar_c16 _) hw ⟨by rw [if_pos hA, o_n_nI (show j9 < 2 ^ 31 by omega)] <;> rfl, hM, hF⟩ (Nat.le_of_ble_eq_true rfl) (Nat.le_of_ble_eq_true rfl) dX5_character_41
  · skip
    refine lv_aload_n hx hb dX5_character_23 rfl (lv_at hl 0 rfl) ?_
    refine mo_get hx hb hts hown hw hM 15 (by decide) q2569 rfl (v := .int (b01 (¬ (0 ≤ x ∧ x ≤ ((nI n9) - 1))))) rfl dX5_character_24 ?_
    refine lv_if_ne (tgt := 40) hx hb dX5_character_27 (by decide) (fun c27 => ?_) (fun c27 => absurd c27 (by rw [b01_t hA]; decide))
    have c27 : ¬ (0 ≤ x ∧ x ≤ ((nI n9) - 1)) := b01_n.mp c27
    refine lv_iconst (v := 0) hx hb dX5_character_40 (by decide) ?_
    exact hret rfl hw ⟨(if_neg hA).symm, hM, hF⟩ (Nat.le_of_ble_eq_true rfl) (Nat.le_of_ble_eq_true rfl) dX5_character_41
