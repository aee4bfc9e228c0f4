set_option maxRecDepth 100000
set_option maxHeartbeats 2000000 in
theorem met_X5_tells (l : Launch) (G : hG) {h : hp} {o : Nat} {ma : Nat → Nat} {σ : MS} (hM : isMod G h o ma σ) (e9 : Int32) (r9 : Int32) (hok : okI (σ.2 0)) (h16 : σ.1 16 = 0) : hv_Mi l G yX5_tells (ws_ yX5_tells cX5_tells 5 (Option.some Jvm.ClassFile.FieldType.int)) ({ frames := 2, cells := 0, slots := 0, locals := 46 } : Room) [.ref o, .int e9, .int r9] h (fun r hh => ∃ σ2, (m_inn σ (i_tells (σ.2 0) e9 r9) σ2 r) ∧ isMod G hh o ma σ2 ∧ mo_fr o ma h hh) := by
  refine hv_bi .int (Or.inl rfl) (own := RX5) (by decide +kernel) rfl (Nat.le_of_ble_eq_true rfl) (fun p e s m a below meth c ls Q hx hb hml hown hts hnm hret hw hl => ?_)
  have hl : lv_has ls 5 [(0, .ref o), (1, .int e9), (2, .int r9)] := hl
  have hF : mo_fr o ma h h := mo_fr.rf
  have hmx : o_many (σ.2 0) ≤ 5 := hok.2.2.1
  have hpx : o_people (σ.2 0) ≤ 6 := hok.2.2.2.2.1
  have hm1 := hok.2.1
  have hq1 := hok.1
  have ha13 : σ.2 0 13 = 0 := hok.2.2.2.2.2.2
  refine lv_aload_n hx hb dX5_tells_0 rfl (lv_at hl 0 rfl) ?_
  refine lv_iload_n hx hb dX5_tells_1 rfl (lv_at hl 1 rfl) ?_
  refine lv_iconst (v := 1) hx hb dX5_tells_2 (by decide) ?_
  refine lv_sipush (v := 9999) hx hb dX5_tells_3 (by decide) ?_
  refine mo_callv (va_runV (As := [.int e9, .int 1, .int 9999]) (rest := []) ⟨hx, hb, hml, hown, hts⟩ (met_X5_hindersRange l G hM e9 1 9999 ) (cwV 3 hts (lw_V q2662 q2664 qs47 q106 q2665) rfl rfl rfl (by decide +kernel) ⟨Nat.le_of_ble_eq_true rfl, Nat.le_of_ble_eq_true rfl⟩) (hv_preV hw pk_X5 hM.1) rfl rfl hl.1 rfl (lv_room (Nat.le_of_ble_eq_true rfl)) dX5_tells_6 ⟨Nat.le_of_ble_eq_true rfl, Nat.le_of_ble_eq_true rfl⟩) hw hF (fun hh H locs hM hF hw => ?_)
  by_cases hP6 : ¬ (1 ≤ e9 ∧ e9 ≤ 9999)
  · skip
    rw [mo_hin_t hP6 h16] at hM
    have hm9 := m_ref.of σ (w := 3) (t := e9) (by decide)
    refine lv_aload_n hx hb dX5_tells_9 rfl (lv_at hl 0 rfl) ?_
    refine lv_iload_n hx hb dX5_tells_10 rfl (lv_at hl 2 rfl) ?_
    refine lv_iconst (v := 0) hx hb dX5_tells_11 (by decide) ?_
    refine lv_bipush (v := 60) hx hb dX5_tells_12 (by decide) ?_
    refine mo_callv (va_runV (As := [.int r9, .int 0, .int 60]) (rest := []) ⟨hx, hb, hml, hown, hts⟩ (met_X5_hindersRange l G hM r9 0 60 ) (cwV 3 hts (lw_V q2662 q2664 qs47 q106 q2665) rfl rfl rfl (by decide +kernel) ⟨Nat.le_of_ble_eq_true rfl, Nat.le_of_ble_eq_true rfl⟩) (hv_preV hw pk_X5 hM.1) rfl rfl hl.1 rfl (lv_room (Nat.le_of_ble_eq_true rfl)) dX5_tells_14 ⟨Nat.le_of_ble_eq_true rfl, Nat.le_of_ble_eq_true rfl⟩) hw hF (fun hh H locs hM hF hw => ?_)
    rw [mo_hin_r ((by rw [hm9.1]; exact hm9.2.1))] at hM
    refine lv_iconst (v := 0) hx hb dX5_tells_17 (by decide) ?_
    refine lv_istore_n (lv' := [(3, .int 0), (0, .ref o), (1, .int e9), (2, .int r9)]) hx hb dX5_tells_18 rfl hl (by decide) rfl (fun ls hl => ?_)
    refine lv_iconst (v := 0) hx hb dX5_tells_19 (by decide) ?_
    refine lv_istore (lv' := [(4, .int 0), (3, .int 0), (0, .ref o), (1, .int e9), (2, .int r9)]) hx hb dX5_tells_20 hl (by decide) rfl (fun ls hl => ?_)
    have LP22 : ∀ (n : Nat) (k : Nat) (hh : hp) (H : Heap) (locs : List Loc) (ls : Array Slot), o_many (σ.2 0) - k < n → k ≤ o_many (σ.2 0) → isMod G hh o ma (mo_st (mo_st σ 16 3) 17 e9) → mo_fr o ma h hh → hv_W G s hh H locs → lv_has ls 5 [(4, .int (nI k)), (3, .int (nI (o_plc (σ.2 0) e9 k))), (0, .ref o), (1, .int e9), (2, .int r9)] → W p l e ({ frames := 2, cells := 0, slots := 0, locals := 46 } : Room) s m a below meth c H locs 0 0 Q (F0 m 22 ls []) := by
      intro n
      induction n with
      | zero => exact fun k hh H locs ls hmu => absurd hmu (Nat.not_lt_zero _)
      | succ n ih =>
        intro k hh H locs ls hmu hkk hM hF hw hl
        refine lv_iload hx hb dX5_tells_22 (lv_at hl 0 rfl) ?_
        refine lv_aload_n hx hb dX5_tells_24 rfl (lv_at hl 2 rfl) ?_
        refine mo_get hx hb hts hown hw hM 0 (by decide) q2554 rfl (v := .ref (ma 0)) rfl dX5_tells_25 ?_
        refine lv_iconst (v := 1) hx hb dX5_tells_28 (by decide) ?_
        refine mo_ald hx hb hw hM 0 rfl (j := 1) rfl (show 1 < 137 by omega) dX5_tells_29 ?_
        refine lv_icmp_ge (tgt := 79) hx hb dX5_tells_30 (by decide) (fun c30 => ?_) (fun c30 => ?_)
        · skip
          have hxk : o_many (σ.2 0) ≤ k := cmp_le c30 hq1 rfl (by omega) (by omega)
          obtain rfl : k = o_many (σ.2 0) := by omega
          refine lv_aload_n hx hb dX5_tells_79 rfl (lv_at hl 2 rfl) ?_
          refine lv_aload_n hx hb dX5_tells_80 rfl (lv_at hl 2 rfl) ?_
          refine mo_get hx hb hts hown hw hM 0 (by decide) q2554 rfl (v := .ref (ma 0)) rfl dX5_tells_81 ?_
          refine lv_iconst (v := 1) hx hb dX5_tells_84 (by decide) ?_
          refine mo_ald hx hb hw hM 0 rfl (j := 1) rfl (show 1 < 137 by omega) dX5_tells_85 ?_
          refine lv_iconst (v := 5) hx hb dX5_tells_86 (by decide) ?_
          refine lv_mat1 (P := (σ.2 0 1) = 5) (j := 95) (fun k1 k2 => lv_icmp_ne (tgt := 94) hx hb dX5_tells_87 (by decide) (fun c => lv_iconst (v := 0) hx hb dX5_tells_94 (by decide) (k2 c)) (fun c => lv_iconst (v := 1) hx hb dX5_tells_90 (by decide) (lv_goto (tgt := 95) hx hb dX5_tells_91 (by decide) (k1 c)))) ?_
          refine lv_iconst (v := 1) hx hb dX5_tells_95 (by decide) ?_
          refine lv_iconst (v := 5) hx hb dX5_tells_96 (by decide) ?_
          refine mo_callv (va_runV (As := [.int (b01 ((σ.2 0 1) = 5)), .int 1, .int 5]) (rest := []) ⟨hx, hb, hml, hown, hts⟩ (met_X5_hinders l G hM ((σ.2 0 1) = 5) 1 5 ) (cwV 3 hts (lw_V q2669 q2671 qs48 q106 q2672) rfl rfl rfl (by decide +kernel) ⟨Nat.le_of_ble_eq_true rfl, Nat.le_of_ble_eq_true rfl⟩) (hv_preV hw pk_X5 hM.1) rfl rfl hl.1 rfl (lv_room (Nat.le_of_ble_eq_true rfl)) dX5_tells_97 ⟨Nat.le_of_ble_eq_true rfl, Nat.le_of_ble_eq_true rfl⟩) hw hF (fun hh H locs hM hF hw => ?_)
          rw [mo_hin_r ((by rw [hm9.1]; exact hm9.2.1))] at hM
          refine lv_aload_n hx hb dX5_tells_100 rfl (lv_at hl 2 rfl) ?_
          refine mo_get hx hb hts hown hw hM 16 (by decide) q2570 rfl (v := .int 3) rfl dX5_tells_101 ?_
          refine lv_if_ne (tgt := 191) hx hb dX5_tells_104 (by decide) (fun _ => ?_) (fun c => absurd c (by decide))
          refine lv_iload_n hx hb dX5_tells_191 rfl (lv_at hl 1 rfl) ?_
          exact hret rfl hw ⟨_, (by unfold i_tells; rw [if_pos hP6]; exact hm9 : m_inn σ (i_tells (σ.2 0) e9 r9) (mo_st (mo_st σ 16 3) 17 e9) (nI (o_plc (σ.2 0) e9 (o_many (σ.2 0))))), hM, hF⟩ (Nat.le_of_ble_eq_true rfl) (Nat.le_of_ble_eq_true rfl) dX5_tells_192
        · skip
          have hxk : k < o_many (σ.2 0) := cmp_nle c30 hq1 rfl (by omega) (by omega)
          refine lv_aload_n hx hb dX5_tells_33 rfl (lv_at hl 2 rfl) ?_
          refine lv_aload_n hx hb dX5_tells_34 rfl (lv_at hl 2 rfl) ?_
          refine lv_iload hx hb dX5_tells_35 (lv_at hl 0 rfl) ?_
          refine hv_callir (va_runV (As := [.int (nI k)]) (rest := [.ref o]) ⟨hx, hb, hml, hown, hts⟩ (met_X5_edge l G hM k (show 13 + 2 * k < 137 by omega)) (cwV 1 hts (lw_V q2673 q2675 qs49 q106 q2676) rfl rfl rfl (by decide +kernel) ⟨Nat.le_of_ble_eq_true rfl, Nat.le_of_ble_eq_true rfl⟩) (hv_preV hw pk_X5 hM.1) rfl rfl hl.1 rfl (lv_room (Nat.le_of_ble_eq_true rfl)) dX5_tells_37 ⟨Nat.le_of_ble_eq_true rfl, Nat.le_of_ble_eq_true rfl⟩) hw (fun H locs hw => ?_)
          refine lv_iload_n hx hb dX5_tells_40 rfl (lv_at hl 3 rfl) ?_
          refine lv_mat1 (P := (σ.2 0 (13 + 2 * k)) = e9) (j := 49) (fun k1 k2 => lv_icmp_ne (tgt := 48) hx hb dX5_tells_41 (by decide) (fun c => lv_iconst (v := 0) hx hb dX5_tells_48 (by decide) (k2 c)) (fun c => lv_iconst (v := 1) hx hb dX5_tells_44 (by decide) (lv_goto (tgt := 49) hx hb dX5_tells_45 (by decide) (k1 c)))) ?_
          refine lv_iconst (v := 4) hx hb dX5_tells_49 (by decide) ?_
          refine lv_iload hx hb dX5_tells_50 (lv_at hl 0 rfl) ?_
          refine mo_callv (va_runV (As := [.int (b01 ((σ.2 0 (13 + 2 * k)) = e9)), .int 4, .int (nI k)]) (rest := []) ⟨hx, hb, hml, hown, hts⟩ (met_X5_hinders l G hM ((σ.2 0 (13 + 2 * k)) = e9) 4 (nI k) ) (cwV 3 hts (lw_V q2669 q2671 qs48 q106 q2672) rfl rfl rfl (by decide +kernel) ⟨Nat.le_of_ble_eq_true rfl, Nat.le_of_ble_eq_true rfl⟩) (hv_preV hw pk_X5 hM.1) rfl rfl hl.1 rfl (lv_room (Nat.le_of_ble_eq_true rfl)) dX5_tells_52 ⟨Nat.le_of_ble_eq_true rfl, Nat.le_of_ble_eq_true rfl⟩) hw hF (fun hh H locs hM hF hw => ?_)
          rw [mo_hin_r ((by rw [hm9.1]; exact hm9.2.1))] at hM
          refine lv_iload_n hx hb dX5_tells_55 rfl (lv_at hl 1 rfl) ?_
          refine lv_aload_n hx hb dX5_tells_56 rfl (lv_at hl 2 rfl) ?_
          refine lv_iload hx hb dX5_tells_57 (lv_at hl 0 rfl) ?_
          refine hv_callir (va_runV (As := [.int (nI k)]) (rest := [.int (nI (o_plc (σ.2 0) e9 k))]) ⟨hx, hb, hml, hown, hts⟩ (met_X5_edge l G hM k (show 13 + 2 * k < 137 by omega)) (cwV 1 hts (lw_V q2673 q2675 qs49 q106 q2676) rfl rfl rfl (by decide +kernel) ⟨Nat.le_of_ble_eq_true rfl, Nat.le_of_ble_eq_true rfl⟩) (hv_preV hw pk_X5 hM.1) rfl rfl hl.1 rfl (lv_room (Nat.le_of_ble_eq_true rfl)) dX5_tells_59 ⟨Nat.le_of_ble_eq_true rfl, Nat.le_of_ble_eq_true rfl⟩) hw (fun H locs hw => ?_)
          refine lv_iload_n hx hb dX5_tells_62 rfl (lv_at hl 3 rfl) ?_
          refine lv_mat0 (P := e9 ≤ (σ.2 0 (13 + 2 * k))) (j := 71) (fun k1 k2 => lv_icmp_ge (tgt := 70) hx hb dX5_tells_63 (by decide) (fun c => lv_iconst (v := 0) hx hb dX5_tells_70 (by decide) (k1 c)) (fun c => lv_iconst (v := 1) hx hb dX5_tells_66 (by decide) (lv_goto (tgt := 71) hx hb dX5_tells_67 (by decide) (k2 c)))) ?_
          refine lv_iadd hx hb dX5_tells_71 ?_
          refine lv_tope (y := nI (o_plc (σ.2 0) e9 (k + 1))) o_plc_s ?_
          refine lv_istore_n (lv' := [(3, .int (nI (o_plc (σ.2 0) e9 (k + 1)))), (4, .int (nI k)), (0, .ref o), (1, .int e9), (2, .int r9)]) hx hb dX5_tells_72 rfl hl (by decide) rfl (fun ls hl => ?_)
          refine lv_iinc (v := nI (k + 1)) (lv' := [(4, .int (nI (k + 1))), (3, .int (nI (o_plc (σ.2 0) e9 (k + 1)))), (0, .ref o), (1, .int e9), (2, .int r9)]) hx hb dX5_tells_73 hl (k := 1) rfl (by simp only [nI, Int32.ofNat_add] <;> rfl) (by decide) rfl (fun ls hl => ?_)
          refine lv_goto (tgt := 22) hx hb dX5_tells_76 (by decide) ?_
          exact ih (k + 1) _ _ _ _ (by omega) (by omega) hM hF hw (lv_sub hl [0, 1, 2, 3, 4] rfl)
    exact LP22 _ 0 _ _ _ _ (Nat.lt_succ_self _) (by omega) hM hF hw (lv_sub hl [0, 1, 2, 3, 4] rfl)
  · skip
    rw [mo_hin_f hP6] at hM
    refine lv_aload_n hx hb dX5_tells_9 rfl (lv_at hl 0 rfl) ?_
    refine lv_iload_n hx hb dX5_tells_10 rfl (lv_at hl 2 rfl) ?_
    refine lv_iconst (v := 0) hx hb dX5_tells_11 (by decide) ?_
    refine lv_bipush (v := 60) hx hb dX5_tells_12 (by decide) ?_
    refine mo_callv (va_runV (As := [.int r9, .int 0, .int 60]) (rest := []) ⟨hx, hb, hml, hown, hts⟩ (met_X5_hindersRange l G hM r9 0 60 ) (cwV 3 hts (lw_V q2662 q2664 qs47 q106 q2665) rfl rfl rfl (by decide +kernel) ⟨Nat.le_of_ble_eq_true rfl, Nat.le_of_ble_eq_true rfl⟩) (hv_preV hw pk_X5 hM.1) rfl rfl hl.1 rfl (lv_room (Nat.le_of_ble_eq_true rfl)) dX5_tells_14 ⟨Nat.le_of_ble_eq_true rfl, Nat.le_of_ble_eq_true rfl⟩) hw hF (fun hh H locs hM hF hw => ?_)
    by_cases hP14 : ¬ (0 ≤ r9 ∧ r9 ≤ 60)
    · skip
      rw [mo_hin_t hP14 h16] at hM
      have hm9 := m_ref.of σ (w := 3) (t := r9) (by decide)
      refine lv_iconst (v := 0) hx hb dX5_tells_17 (by decide) ?_
      refine lv_istore_n (lv' := [(3, .int 0), (0, .ref o), (1, .int e9), (2, .int r9)]) hx hb dX5_tells_18 rfl hl (by decide) rfl (fun ls hl => ?_)
      refine lv_iconst (v := 0) hx hb dX5_tells_19 (by decide) ?_
      refine lv_istore (lv' := [(4, .int 0), (3, .int 0), (0, .ref o), (1, .int e9), (2, .int r9)]) hx hb dX5_tells_20 hl (by decide) rfl (fun ls hl => ?_)
      have LP22 : ∀ (n : Nat) (k : Nat) (hh : hp) (H : Heap) (locs : List Loc) (ls : Array Slot), o_many (σ.2 0) - k < n → k ≤ o_many (σ.2 0) → isMod G hh o ma (mo_st (mo_st σ 16 3) 17 r9) → mo_fr o ma h hh → hv_W G s hh H locs → lv_has ls 5 [(4, .int (nI k)), (3, .int (nI (o_plc (σ.2 0) e9 k))), (0, .ref o), (1, .int e9), (2, .int r9)] → W p l e ({ frames := 2, cells := 0, slots := 0, locals := 46 } : Room) s m a below meth c H locs 0 0 Q (F0 m 22 ls []) := by
        intro n
        induction n with
        | zero => exact fun k hh H locs ls hmu => absurd hmu (Nat.not_lt_zero _)
        | succ n ih =>
          intro k hh H locs ls hmu hkk hM hF hw hl
          refine lv_iload hx hb dX5_tells_22 (lv_at hl 0 rfl) ?_
          refine lv_aload_n hx hb dX5_tells_24 rfl (lv_at hl 2 rfl) ?_
          refine mo_get hx hb hts hown hw hM 0 (by decide) q2554 rfl (v := .ref (ma 0)) rfl dX5_tells_25 ?_
          refine lv_iconst (v := 1) hx hb dX5_tells_28 (by decide) ?_
          refine mo_ald hx hb hw hM 0 rfl (j := 1) rfl (show 1 < 137 by omega) dX5_tells_29 ?_
          refine lv_icmp_ge (tgt := 79) hx hb dX5_tells_30 (by decide) (fun c30 => ?_) (fun c30 => ?_)
          · skip
            have hxk : o_many (σ.2 0) ≤ k := cmp_le c30 hq1 rfl (by omega) (by omega)
            obtain rfl : k = o_many (σ.2 0) := by omega
            refine lv_aload_n hx hb dX5_tells_79 rfl (lv_at hl 2 rfl) ?_
            refine lv_aload_n hx hb dX5_tells_80 rfl (lv_at hl 2 rfl) ?_
            refine mo_get hx hb hts hown hw hM 0 (by decide) q2554 rfl (v := .ref (ma 0)) rfl dX5_tells_81 ?_
            refine lv_iconst (v := 1) hx hb dX5_tells_84 (by decide) ?_
            refine mo_ald hx hb hw hM 0 rfl (j := 1) rfl (show 1 < 137 by omega) dX5_tells_85 ?_
            refine lv_iconst (v := 5) hx hb dX5_tells_86 (by decide) ?_
            refine lv_mat1 (P := (σ.2 0 1) = 5) (j := 95) (fun k1 k2 => lv_icmp_ne (tgt := 94) hx hb dX5_tells_87 (by decide) (fun c => lv_iconst (v := 0) hx hb dX5_tells_94 (by decide) (k2 c)) (fun c => lv_iconst (v := 1) hx hb dX5_tells_90 (by decide) (lv_goto (tgt := 95) hx hb dX5_tells_91 (by decide) (k1 c)))) ?_
            refine lv_iconst (v := 1) hx hb dX5_tells_95 (by decide) ?_
            refine lv_iconst (v := 5) hx hb dX5_tells_96 (by decide) ?_
            refine mo_callv (va_runV (As := [.int (b01 ((σ.2 0 1) = 5)), .int 1, .int 5]) (rest := []) ⟨hx, hb, hml, hown, hts⟩ (met_X5_hinders l G hM ((σ.2 0 1) = 5) 1 5 ) (cwV 3 hts (lw_V q2669 q2671 qs48 q106 q2672) rfl rfl rfl (by decide +kernel) ⟨Nat.le_of_ble_eq_true rfl, Nat.le_of_ble_eq_true rfl⟩) (hv_preV hw pk_X5 hM.1) rfl rfl hl.1 rfl (lv_room (Nat.le_of_ble_eq_true rfl)) dX5_tells_97 ⟨Nat.le_of_ble_eq_true rfl, Nat.le_of_ble_eq_true rfl⟩) hw hF (fun hh H locs hM hF hw => ?_)
            rw [mo_hin_r ((by rw [hm9.1]; exact hm9.2.1))] at hM
            refine lv_aload_n hx hb dX5_tells_100 rfl (lv_at hl 2 rfl) ?_
            refine mo_get hx hb hts hown hw hM 16 (by decide) q2570 rfl (v := .int 3) rfl dX5_tells_101 ?_
            refine lv_if_ne (tgt := 191) hx hb dX5_tells_104 (by decide) (fun _ => ?_) (fun c => absurd c (by decide))
            refine lv_iload_n hx hb dX5_tells_191 rfl (lv_at hl 1 rfl) ?_
            exact hret rfl hw ⟨_, (by unfold i_tells; rw [if_neg hP6]; rw [if_pos hP14]; exact hm9 : m_inn σ (i_tells (σ.2 0) e9 r9) (mo_st (mo_st σ 16 3) 17 r9) (nI (o_plc (σ.2 0) e9 (o_many (σ.2 0))))), hM, hF⟩ (Nat.le_of_ble_eq_true rfl) (Nat.le_of_ble_eq_true rfl) dX5_tells_192
          · skip
            have hxk : k < o_many (σ.2 0) := cmp_nle c30 hq1 rfl (by omega) (by omega)
            refine lv_aload_n hx hb dX5_tells_33 rfl (lv_at hl 2 rfl) ?_
            refine lv_aload_n hx hb dX5_tells_34 rfl (lv_at hl 2 rfl) ?_
            refine lv_iload hx hb dX5_tells_35 (lv_at hl 0 rfl) ?_
            refine hv_callir (va_runV (As := [.int (nI k)]) (rest := [.ref o]) ⟨hx, hb, hml, hown, hts⟩ (met_X5_edge l G hM k (show 13 + 2 * k < 137 by omega)) (cwV 1 hts (lw_V q2673 q2675 qs49 q106 q2676) rfl rfl rfl (by decide +kernel) ⟨Nat.le_of_ble_eq_true rfl, Nat.le_of_ble_eq_true rfl⟩) (hv_preV hw pk_X5 hM.1) rfl rfl hl.1 rfl (lv_room (Nat.le_of_ble_eq_true rfl)) dX5_tells_37 ⟨Nat.le_of_ble_eq_true rfl, Nat.le_of_ble_eq_true rfl⟩) hw (fun H locs hw => ?_)
            refine lv_iload_n hx hb dX5_tells_40 rfl (lv_at hl 3 rfl) ?_
            refine lv_mat1 (P := (σ.2 0 (13 + 2 * k)) = e9) (j := 49) (fun k1 k2 => lv_icmp_ne (tgt := 48) hx hb dX5_tells_41 (by decide) (fun c => lv_iconst (v := 0) hx hb dX5_tells_48 (by decide) (k2 c)) (fun c => lv_iconst (v := 1) hx hb dX5_tells_44 (by decide) (lv_goto (tgt := 49) hx hb dX5_tells_45 (by decide) (k1 c)))) ?_
            refine lv_iconst (v := 4) hx hb dX5_tells_49 (by decide) ?_
            refine lv_iload hx hb dX5_tells_50 (lv_at hl 0 rfl) ?_
            refine mo_callv (va_runV (As := [.int (b01 ((σ.2 0 (13 + 2 * k)) = e9)), .int 4, .int (nI k)]) (rest := []) ⟨hx, hb, hml, hown, hts⟩ (met_X5_hinders l G hM ((σ.2 0 (13 + 2 * k)) = e9) 4 (nI k) ) (cwV 3 hts (lw_V q2669 q2671 qs48 q106 q2672) rfl rfl rfl (by decide +kernel) ⟨Nat.le_of_ble_eq_true rfl, Nat.le_of_ble_eq_true rfl⟩) (hv_preV hw pk_X5 hM.1) rfl rfl hl.1 rfl (lv_room (Nat.le_of_ble_eq_true rfl)) dX5_tells_52 ⟨Nat.le_of_ble_eq_true rfl, Nat.le_of_ble_eq_true rfl⟩) hw hF (fun hh H locs hM hF hw => ?_)
            rw [mo_hin_r ((by rw [hm9.1]; exact hm9.2.1))] at hM
            refine lv_iload_n hx hb dX5_tells_55 rfl (lv_at hl 1 rfl) ?_
            refine lv_aload_n hx hb dX5_tells_56 rfl (lv_at hl 2 rfl) ?_
            refine lv_iload hx hb dX5_tells_57 (lv_at hl 0 rfl) ?_
            refine hv_callir (va_runV (As := [.int (nI k)]) (rest := [.int (nI (o_plc (σ.2 0) e9 k))]) ⟨hx, hb, hml, hown, hts⟩ (met_X5_edge l G hM k (show 13 + 2 * k < 137 by omega)) (cwV 1 hts (lw_V q2673 q2675 qs49 q106 q2676) rfl rfl rfl (by decide +kernel) ⟨Nat.le_of_ble_eq_true rfl, Nat.le_of_ble_eq_true rfl⟩) (hv_preV hw pk_X5 hM.1) rfl rfl hl.1 rfl (lv_room (Nat.le_of_ble_eq_true rfl)) dX5_tells_59 ⟨Nat.le_of_ble_eq_true rfl, Nat.le_of_ble_eq_true rfl⟩) hw (fun H locs hw => ?_)
            refine lv_iload_n hx hb dX5_tells_62 rfl (lv_at hl 3 rfl) ?_
            refine lv_mat0 (P := e9 ≤ (σ.2 0 (13 + 2 * k))) (j := 71) (fun k1 k2 => lv_icmp_ge (tgt := 70) hx hb dX5_tells_63 (by decide) (fun c => lv_iconst (v := 0) hx hb dX5_tells_70 (by decide) (k1 c)) (fun c => lv_iconst (v := 1) hx hb dX5_tells_66 (by decide) (lv_goto (tgt := 71) hx hb dX5_tells_67 (by decide) (k2 c)))) ?_
            refine lv_iadd hx hb dX5_tells_71 ?_
            refine lv_tope (y := nI (o_plc (σ.2 0) e9 (k + 1))) o_plc_s ?_
            refine lv_istore_n (lv' := [(3, .int (nI (o_plc (σ.2 0) e9 (k + 1)))), (4, .int (nI k)), (0, .ref o), (1, .int e9), (2, .int r9)]) hx hb dX5_tells_72 rfl hl (by decide) rfl (fun ls hl => ?_)
            refine lv_iinc (v := nI (k + 1)) (lv' := [(4, .int (nI (k + 1))), (3, .int (nI (o_plc (σ.2 0) e9 (k + 1)))), (0, .ref o), (1, .int e9), (2, .int r9)]) hx hb dX5_tells_73 hl (k := 1) rfl (by simp only [nI, Int32.ofNat_add] <;> rfl) (by decide) rfl (fun ls hl => ?_)
            refine lv_goto (tgt := 22) hx hb dX5_tells_76 (by decide) ?_
            exact ih (k + 1) _ _ _ _ (by omega) (by omega) hM hF hw (lv_sub hl [0, 1, 2, 3, 4] rfl)
      exact LP22 _ 0 _ _ _ _ (Nat.lt_succ_self _) (by omega) hM hF hw (lv_sub hl [0, 1, 2, 3, 4] rfl)
    · skip
      rw [mo_hin_f hP14] at hM
      refine lv_iconst (v := 0) hx hb dX5_tells_17 (by decide) ?_
      refine lv_istore_n (lv' := [(3, .int 0), (0, .ref o), (1, .int e9), (2, .int r9)]) hx hb dX5_tells_18 rfl hl (by decide) rfl (fun ls hl => ?_)
      refine lv_iconst (v := 0) hx hb dX5_tells_19 (by decide) ?_
      refine lv_istore (lv' := [(4, .int 0), (3, .int 0), (0, .ref o), (1, .int e9), (2, .int r9)]) hx hb dX5_tells_20 hl (by decide) rfl (fun ls hl => ?_)
      have hM : isMod G hh o ma (m_with σ (o_with (σ.2 0) e9 0)) := hM
      have LP22 : ∀ (n : Nat) (k : Nat) (hh : hp) (H : Heap) (locs : List Loc) (ls : Array Slot), o_many (σ.2 0) - k < n → k ≤ o_many (σ.2 0) → isMod G hh o ma (m_with σ (o_with (σ.2 0) e9 k)) → mo_fr o ma h hh → hv_W G s hh H locs → lv_has ls 5 [(4, .int (nI k)), (3, .int (nI (o_plc (σ.2 0) e9 k))), (0, .ref o), (1, .int e9), (2, .int r9)] → W p l e ({ frames := 2, cells := 0, slots := 0, locals := 46 } : Room) s m a below meth c H locs 0 0 Q (F0 m 22 ls []) := by
        intro n
        induction n with
        | zero => exact fun k hh H locs ls hmu => absurd hmu (Nat.not_lt_zero _)
        | succ n ih =>
          intro k hh H locs ls hmu hkk hM hF hw hl
          refine lv_iload hx hb dX5_tells_22 (lv_at hl 0 rfl) ?_
          refine lv_aload_n hx hb dX5_tells_24 rfl (lv_at hl 2 rfl) ?_
          refine mo_get hx hb hts hown hw hM 0 (by decide) q2554 rfl (v := .ref (ma 0)) rfl dX5_tells_25 ?_
          refine lv_iconst (v := 1) hx hb dX5_tells_28 (by decide) ?_
          refine mo_ald hx hb hw hM 0 rfl (j := 1) rfl (show 1 < 137 by omega) dX5_tells_29 ?_
          refine lv_icmp_ge (tgt := 79) hx hb dX5_tells_30 (by decide) (fun c30 => ?_) (fun c30 => ?_)
          · skip
            have hxk : o_many (σ.2 0) ≤ k := cmp_le c30 hq1 rfl (by omega) (by omega)
            obtain rfl : k = o_many (σ.2 0) := by omega
            cases hwi : o_with (σ.2 0) e9 (o_many (σ.2 0)) with
            | none =>
              rw [hwi] at hM
              have hM : isMod G hh o ma σ := hM
              have hpl := o_plc_le (a := σ.2 0) (e := e9) (o_many (σ.2 0))
              have hpp := o_plc_pos (a := σ.2 0) (e := e9) (by rw [ha13]; exact Int32.lt_of_lt_of_le (by decide) (Decidable.not_not.mp hP6).1) (o_many (σ.2 0)) hm1
              refine lv_aload_n hx hb dX5_tells_79 rfl (lv_at hl 2 rfl) ?_
              refine lv_aload_n hx hb dX5_tells_80 rfl (lv_at hl 2 rfl) ?_
              refine mo_get hx hb hts hown hw hM 0 (by decide) q2554 rfl (v := .ref (ma 0)) rfl dX5_tells_81 ?_
              refine lv_iconst (v := 1) hx hb dX5_tells_84 (by decide) ?_
              refine mo_ald hx hb hw hM 0 rfl (j := 1) rfl (show 1 < 137 by omega) dX5_tells_85 ?_
              refine lv_iconst (v := 5) hx hb dX5_tells_86 (by decide) ?_
              refine lv_mat1 (P := (σ.2 0 1) = 5) (j := 95) (fun k1 k2 => lv_icmp_ne (tgt := 94) hx hb dX5_tells_87 (by decide) (fun c => lv_iconst (v := 0) hx hb dX5_tells_94 (by decide) (k2 c)) (fun c => lv_iconst (v := 1) hx hb dX5_tells_90 (by decide) (lv_goto (tgt := 95) hx hb dX5_tells_91 (by decide) (k1 c)))) ?_
              refine lv_iconst (v := 1) hx hb dX5_tells_95 (by decide) ?_
              refine lv_iconst (v := 5) hx hb dX5_tells_96 (by decide) ?_
              refine mo_callv (va_runV (As := [.int (b01 ((σ.2 0 1) = 5)), .int 1, .int 5]) (rest := []) ⟨hx, hb, hml, hown, hts⟩ (met_X5_hinders l G hM ((σ.2 0 1) = 5) 1 5 ) (cwV 3 hts (lw_V q2669 q2671 qs48 q106 q2672) rfl rfl rfl (by decide +kernel) ⟨Nat.le_of_ble_eq_true rfl, Nat.le_of_ble_eq_true rfl⟩) (hv_preV hw pk_X5 hM.1) rfl rfl hl.1 rfl (lv_room (Nat.le_of_ble_eq_true rfl)) dX5_tells_97 ⟨Nat.le_of_ble_eq_true rfl, Nat.le_of_ble_eq_true rfl⟩) hw hF (fun hh H locs hM hF hw => ?_)
              by_cases hP97 : (σ.2 0 1) = 5
              · skip
                rw [mo_hin_t hP97 h16] at hM
                have hm9 := m_ref.of σ (w := 1) (t := 5) (by decide)
                refine lv_aload_n hx hb dX5_tells_100 rfl (lv_at hl 2 rfl) ?_
                refine mo_get hx hb hts hown hw hM 16 (by decide) q2570 rfl (v := .int 1) rfl dX5_tells_101 ?_
                refine lv_if_ne (tgt := 191) hx hb dX5_tells_104 (by decide) (fun _ => ?_) (fun c => absurd c (by decide))
                refine lv_iload_n hx hb dX5_tells_191 rfl (lv_at hl 1 rfl) ?_
                exact hret rfl hw ⟨_, (by unfold i_tells; rw [if_neg hP6]; rw [if_neg hP14]; rw [hwi]; dsimp only; rw [if_pos (by rw [hok.1] at hP97; exact cmp_eq (b := 5) hP97 rfl rfl (by omega) (by omega))]; exact hm9 : m_inn σ (i_tells (σ.2 0) e9 r9) (mo_st (mo_st σ 16 1) 17 5) (nI (o_plc (σ.2 0) e9 (o_many (σ.2 0))))), hM, hF⟩ (Nat.le_of_ble_eq_true rfl) (Nat.le_of_ble_eq_true rfl) dX5_tells_192
              · skip
                rw [mo_hin_f hP97] at hM
                have hn5 : o_many (σ.2 0) ≠ 5 := fun z => hP97 (by rw [hq1, z]; rfl)
                refine lv_aload_n hx hb dX5_tells_100 rfl (lv_at hl 2 rfl) ?_
                refine mo_get hx hb hts hown hw hM 16 (by decide) q2570 rfl (v := .int (σ.1 16)) rfl dX5_tells_101 ?_
                refine lv_tope (y := 0) (h16) ?_
                refine lv_if_ne (tgt := 191) hx hb dX5_tells_104 (by decide) (fun c => absurd c (by decide)) (fun _ => ?_)
                refine lv_iconst (v := 2) hx hb dX5_tells_107 (by decide) ?_
                refine lv_aload_n hx hb dX5_tells_108 rfl (lv_at hl 2 rfl) ?_
                refine mo_get hx hb hts hown hw hM 0 (by decide) q2554 rfl (v := .ref (ma 0)) rfl dX5_tells_109 ?_
                refine lv_iconst (v := 1) hx hb dX5_tells_112 (by decide) ?_
                refine mo_ald hx hb hw hM 0 rfl (j := 1) rfl (show 1 < 137 by omega) dX5_tells_113 ?_
                refine lv_tope (y := nI (o_many (σ.2 0))) (hq1) ?_
                refine lv_imul hx hb dX5_tells_114 ?_
                refine lv_tope (y := nI (2 * o_many (σ.2 0))) (by simp only [nI, Int32.ofNat_add, Int32.ofNat_mul] <;> rfl) ?_
                refine lv_iconst (v := 1) hx hb dX5_tells_115 (by decide) ?_
                refine lv_isub hx hb dX5_tells_116 ?_
                refine lv_tope (y := nI (2 * o_many (σ.2 0) - 1)) (pk_sub (b := 1) (by omega)) ?_
                refine lv_istore (lv' := [(4, .int (nI (2 * o_many (σ.2 0) - 1))), (3, .int (nI (o_plc (σ.2 0) e9 (o_many (σ.2 0))))), (0, .ref o), (1, .int e9), (2, .int r9)]) hx hb dX5_tells_117 hl (by decide) rfl (fun ls hl => ?_)
                have hbig : 2 * o_many (σ.2 0) - 1 + 1 = 2 * o_many (σ.2 0) := by omega
                have hM : isMod G hh o ma (mo_na σ (o_shu (σ.2 0) (2 * o_many (σ.2 0) - 1 + 1) (2 * o_many (σ.2 0)))) := by rw [hbig, o_shu_0, mo_na_self]; exact hM
                have LP119 : ∀ (n : Nat) (k : Nat) (hh : hp) (H : Heap) (locs : List Loc) (ls : Array Slot), k + 1 < n → k + 1 ≤ 2 * o_many (σ.2 0) → 2 * (o_plc (σ.2 0) e9 (o_many (σ.2 0))) ≤ k + 1 → isMod G hh o ma (mo_na σ (o_shu (σ.2 0) (k + 1) (2 * o_many (σ.2 0)))) → mo_fr o ma h hh → hv_W G s hh H locs → lv_has ls 5 [(4, .int (nI k)), (3, .int (nI (o_plc (σ.2 0) e9 (o_many (σ.2 0))))), (0, .ref o), (1, .int e9), (2, .int r9)] → W p l e ({ frames := 2, cells := 0, slots := 0, locals := 46 } : Room) s m a below meth c H locs 0 0 Q (F0 m 119 ls []) := by
                  intro n
                  induction n with
                  | zero => exact fun k hh H locs ls hmu => absurd hmu (Nat.not_lt_zero _)
                  | succ n ih =>
                    intro k hh H locs ls hmu hku hkl hM hF hw hl
                    refine lv_iload hx hb dX5_tells_119 (lv_at hl 0 rfl) ?_
                    refine lv_iconst (v := 2) hx hb dX5_tells_121 (by decide) ?_
                    refine lv_iload_n hx hb dX5_tells_122 rfl (lv_at hl 1 rfl) ?_
                    refine lv_imul hx hb dX5_tells_123 ?_
                    refine lv_tope (y := nI (2 * o_plc (σ.2 0) e9 (o_many (σ.2 0)))) (by simp only [nI, Int32.ofNat_add, Int32.ofNat_mul] <;> rfl) ?_
                    refine lv_icmp_lt (tgt := 155) hx hb dX5_tells_124 (by decide) (fun c124 => ?_) (fun c124 => ?_)
                    · skip
                      have hk9 : k < 2 * (o_plc (σ.2 0) e9 (o_many (σ.2 0))) := cmp_lt c124 rfl rfl (by omega) (by omega)
                      have ek : k + 1 = 2 * (o_plc (σ.2 0) e9 (o_many (σ.2 0))) := by omega
                      rw [ek] at hM
                      refine lv_aload_n hx hb dX5_tells_155 rfl (lv_at hl 2 rfl) ?_
                      refine mo_get hx hb hts hown hw hM 0 (by decide) q2554 rfl (v := .ref (ma 0)) rfl dX5_tells_156 ?_
                      refine lv_bipush (v := 13) hx hb dX5_tells_159 (by decide) ?_
                      refine lv_iconst (v := 2) hx hb dX5_tells_161 (by decide) ?_
                      refine lv_iload_n hx hb dX5_tells_162 rfl (lv_at hl 1 rfl) ?_
                      refine lv_imul hx hb dX5_tells_163 ?_
                      refine lv_tope (y := nI (2 * o_plc (σ.2 0) e9 (o_many (σ.2 0)))) (by simp only [nI, Int32.ofNat_add, Int32.ofNat_mul] <;> rfl) ?_
                      refine lv_iadd hx hb dX5_tells_164 ?_
                      refine lv_tope (y := nI (13 + 2 * o_plc (σ.2 0) e9 (o_many (σ.2 0)))) (by simp only [nI, Int32.ofNat_add, Int32.ofNat_mul] <;> rfl) ?_
                      refine lv_iload_n hx hb dX5_tells_165 rfl (lv_at hl 3 rfl) ?_
                      refine mo_ast hx hb hw hM hF 0 rfl (j := (13 + 2 * o_plc (σ.2 0) e9 (o_many (σ.2 0)))) rfl (show 13 + 2 * o_plc (σ.2 0) e9 (o_many (σ.2 0)) < 137 by omega) dX5_tells_166 (fun hh H locs hM hF hw => ?_)
                      refine lv_aload_n hx hb dX5_tells_167 rfl (lv_at hl 2 rfl) ?_
                      refine mo_get hx hb hts hown hw hM 0 (by decide) q2554 rfl (v := .ref (ma 0)) rfl dX5_tells_168 ?_
                      refine lv_bipush (v := 13) hx hb dX5_tells_171 (by decide) ?_
                      refine lv_iconst (v := 2) hx hb dX5_tells_173 (by decide) ?_
                      refine lv_iload_n hx hb dX5_tells_174 rfl (lv_at hl 1 rfl) ?_
                      refine lv_imul hx hb dX5_tells_175 ?_
                      refine lv_tope (y := nI (2 * o_plc (σ.2 0) e9 (o_many (σ.2 0)))) (by simp only [nI, Int32.ofNat_add, Int32.ofNat_mul] <;> rfl) ?_
                      refine lv_iadd hx hb dX5_tells_176 ?_
                      refine lv_tope (y := nI (13 + 2 * o_plc (σ.2 0) e9 (o_many (σ.2 0)))) (by simp only [nI, Int32.ofNat_add, Int32.ofNat_mul] <;> rfl) ?_
                      refine lv_iconst (v := 1) hx hb dX5_tells_177 (by decide) ?_
                      refine lv_iadd hx hb dX5_tells_178 ?_
                      refine lv_tope (y := nI (13 + 2 * o_plc (σ.2 0) e9 (o_many (σ.2 0)) + 1)) (by simp only [nI, Int32.ofNat_add, Int32.ofNat_mul] <;> rfl) ?_
                      refine lv_iload_n hx hb dX5_tells_179 rfl (lv_at hl 4 rfl) ?_
                      refine mo_ast hx hb hw hM hF 0 rfl (j := (13 + 2 * o_plc (σ.2 0) e9 (o_many (σ.2 0)) + 1)) rfl (show 13 + 2 * o_plc (σ.2 0) e9 (o_many (σ.2 0)) + 1 < 137 by omega) dX5_tells_180 (fun hh H locs hM hF hw => ?_)
                      refine lv_aload_n hx hb dX5_tells_181 rfl (lv_at hl 2 rfl) ?_
                      refine mo_get hx hb hts hown hw hM 0 (by decide) q2554 rfl (v := .ref (ma 0)) rfl dX5_tells_182 ?_
                      refine lv_iconst (v := 1) hx hb dX5_tells_185 (by decide) ?_
                      refine lv_dup2_11 hx hb dX5_tells_186 rfl rfl ?_
                      refine mo_ald hx hb hw hM 0 rfl (j := 1) rfl (show 1 < 137 by omega) dX5_tells_187 ?_
                      refine lv_tope (y := nI (o_many (σ.2 0))) (((mo_sa_ne (show 1 ≠ 13 + 2 * (o_plc (σ.2 0) e9 (o_many (σ.2 0))) + 1 by omega)).trans (mo_sa_ne (show 1 ≠ 13 + 2 * (o_plc (σ.2 0) e9 (o_many (σ.2 0))) by omega))).trans ((congrFun mo_na_2 1).trans ((o_shu_at (by omega)).trans hq1))) ?_
                      refine lv_iconst (v := 1) hx hb dX5_tells_188 (by decide) ?_
                      refine lv_iadd hx hb dX5_tells_189 ?_
                      refine lv_tope (y := nI (o_many (σ.2 0) + 1)) (by simp only [nI, Int32.ofNat_add, Int32.ofNat_mul] <;> rfl) ?_
                      refine mo_ast hx hb hw hM hF 0 rfl (j := 1) rfl (show 1 < 137 by omega) dX5_tells_190 (fun hh H locs hM hF hw => ?_)
                      refine lv_iload_n hx hb dX5_tells_191 rfl (lv_at hl 1 rfl) ?_
                      exact hret rfl hw ⟨_, (by unfold i_tells; rw [if_neg hP6]; rw [if_neg hP14]; rw [hwi]; dsimp only; rw [if_neg hn5]; exact ⟨by simp only [mo_sa_na, mo_na_na, mo_na_2], rfl⟩ : m_inn σ (i_tells (σ.2 0) e9 r9) (mo_sa (mo_sa (mo_sa (mo_na σ (o_shu (σ.2 0) (2 * o_plc (σ.2 0) e9 (o_many (σ.2 0))) (2 * o_many (σ.2 0)))) 0 (13 + 2 * o_plc (σ.2 0) e9 (o_many (σ.2 0))) e9) 0 (13 + 2 * o_plc (σ.2 0) e9 (o_many (σ.2 0)) + 1) r9) 0 1 (nI (o_many (σ.2 0) + 1))) (nI (o_plc (σ.2 0) e9 (o_many (σ.2 0))))), hM, hF⟩ (Nat.le_of_ble_eq_true rfl) (Nat.le_of_ble_eq_true rfl) dX5_tells_192
                    · skip
                      have hk9 : 2 * (o_plc (σ.2 0) e9 (o_many (σ.2 0))) ≤ k := cmp_nlt c124 rfl rfl (by omega) (by omega)
                      refine lv_aload_n hx hb dX5_tells_127 rfl (lv_at hl 2 rfl) ?_
                      refine mo_get hx hb hts hown hw hM 0 (by decide) q2554 rfl (v := .ref (ma 0)) rfl dX5_tells_128 ?_
                      refine lv_bipush (v := 13) hx hb dX5_tells_131 (by decide) ?_
                      refine lv_iload hx hb dX5_tells_133 (lv_at hl 0 rfl) ?_
                      refine lv_iadd hx hb dX5_tells_135 ?_
                      refine lv_tope (y := nI (13 + k)) (by simp only [nI, Int32.ofNat_add, Int32.ofNat_mul] <;> rfl) ?_
                      refine lv_iconst (v := 2) hx hb dX5_tells_136 (by decide) ?_
                      refine lv_iadd hx hb dX5_tells_137 ?_
                      refine lv_tope (y := nI (13 + k + 2)) (by simp only [nI, Int32.ofNat_add, Int32.ofNat_mul] <;> rfl) ?_
                      refine lv_aload_n hx hb dX5_tells_138 rfl (lv_at hl 2 rfl) ?_
                      refine mo_get hx hb hts hown hw hM 0 (by decide) q2554 rfl (v := .ref (ma 0)) rfl dX5_tells_139 ?_
                      refine lv_bipush (v := 13) hx hb dX5_tells_142 (by decide) ?_
                      refine lv_iload hx hb dX5_tells_144 (lv_at hl 0 rfl) ?_
                      refine lv_iadd hx hb dX5_tells_146 ?_
                      refine lv_tope (y := nI (13 + k)) (by simp only [nI, Int32.ofNat_add, Int32.ofNat_mul] <;> rfl) ?_
                      refine mo_ald hx hb hw hM 0 rfl (j := 13 + k) rfl (show 13 + k < 137 by omega) dX5_tells_147 ?_
                      refine lv_tope (y := σ.2 0 (13 + k)) ((congrFun mo_na_2 _).trans (o_shu_at (by omega))) ?_
                      refine mo_ast hx hb hw hM hF 0 rfl (j := 13 + k + 2) rfl (show 13 + k + 2 < 137 by omega) dX5_tells_148 (fun hh H locs hM hF hw => ?_)
                      rw [mo_na_sa, o_shu_s (by omega), show k = k - 1 + 1 by omega] at hM
                      refine lv_iinc (v := nI (k - 1)) (lv' := [(4, .int (nI (k - 1))), (3, .int (nI (o_plc (σ.2 0) e9 (o_many (σ.2 0))))), (0, .ref o), (1, .int e9), (2, .int r9)]) hx hb dX5_tells_149 hl (k := 0) rfl (by exact sb_m1 (by omega)) (by decide) rfl (fun ls hl => ?_)
                      refine lv_goto (tgt := 119) hx hb dX5_tells_152 (by decide) ?_
                      exact ih (k - 1) _ _ _ _ (by omega) (by omega) (by omega) hM hF hw (lv_sub hl [0, 1, 2, 3, 4] rfl)
                exact LP119 _ (2 * o_many (σ.2 0) - 1) _ _ _ _ (Nat.lt_succ_self _) (by omega) (by omega) hM hF hw (lv_sub hl [0, 1, 2, 3, 4] rfl)
            | some k0 =>
              rw [hwi] at hM
              have hM : isMod G hh o ma (mo_st (mo_st σ 16 4) 17 (nI k0)) := hM
              have hm9 := m_ref.of σ (w := 4) (t := nI k0) (by decide)
              refine lv_aload_n hx hb dX5_tells_79 rfl (lv_at hl 2 rfl) ?_
              refine lv_aload_n hx hb dX5_tells_80 rfl (lv_at hl 2 rfl) ?_
              refine mo_get hx hb hts hown hw hM 0 (by decide) q2554 rfl (v := .ref (ma 0)) rfl dX5_tells_81 ?_
              refine lv_iconst (v := 1) hx hb dX5_tells_84 (by decide) ?_
              refine mo_ald hx hb hw hM 0 rfl (j := 1) rfl (show 1 < 137 by omega) dX5_tells_85 ?_
              refine lv_iconst (v := 5) hx hb dX5_tells_86 (by decide) ?_
              refine lv_mat1 (P := (σ.2 0 1) = 5) (j := 95) (fun k1 k2 => lv_icmp_ne (tgt := 94) hx hb dX5_tells_87 (by decide) (fun c => lv_iconst (v := 0) hx hb dX5_tells_94 (by decide) (k2 c)) (fun c => lv_iconst (v := 1) hx hb dX5_tells_90 (by decide) (lv_goto (tgt := 95) hx hb dX5_tells_91 (by decide) (k1 c)))) ?_
              refine lv_iconst (v := 1) hx hb dX5_tells_95 (by decide) ?_
              refine lv_iconst (v := 5) hx hb dX5_tells_96 (by decide) ?_
              refine mo_callv (va_runV (As := [.int (b01 ((σ.2 0 1) = 5)), .int 1, .int 5]) (rest := []) ⟨hx, hb, hml, hown, hts⟩ (met_X5_hinders l G hM ((σ.2 0 1) = 5) 1 5 ) (cwV 3 hts (lw_V q2669 q2671 qs48 q106 q2672) rfl rfl rfl (by decide +kernel) ⟨Nat.le_of_ble_eq_true rfl, Nat.le_of_ble_eq_true rfl⟩) (hv_preV hw pk_X5 hM.1) rfl rfl hl.1 rfl (lv_room (Nat.le_of_ble_eq_true rfl)) dX5_tells_97 ⟨Nat.le_of_ble_eq_true rfl, Nat.le_of_ble_eq_true rfl⟩) hw hF (fun hh H locs hM hF hw => ?_)
              rw [mo_hin_r ((by rw [hm9.1]; exact hm9.2.1))] at hM
              refine lv_aload_n hx hb dX5_tells_100 rfl (lv_at hl 2 rfl) ?_
              refine mo_get hx hb hts hown hw hM 16 (by decide) q2570 rfl (v := .int 4) rfl dX5_tells_101 ?_
              refine lv_if_ne (tgt := 191) hx hb dX5_tells_104 (by decide) (fun _ => ?_) (fun c => absurd c (by decide))
              refine lv_iload_n hx hb dX5_tells_191 rfl (lv_at hl 1 rfl) ?_
              exact hret rfl hw ⟨_, (by unfold i_tells; rw [if_neg hP6]; rw [if_neg hP14]; rw [hwi]; dsimp only; exact hm9 : m_inn σ (i_tells (σ.2 0) e9 r9) (mo_st (mo_st σ 16 4) 17 (nI k0)) (nI (o_plc (σ.2 0) e9 (o_many (σ.2 0))))), hM, hF⟩ (Nat.le_of_ble_eq_true rfl) (Nat.le_of_ble_eq_true rfl) dX5_tells_192
          · skip
            have hxk : k < o_many (σ.2 0) := cmp_nle c30 hq1 rfl (by omega) (by omega)
            refine lv_aload_n hx hb dX5_tells_33 rfl (lv_at hl 2 rfl) ?_
            refine lv_aload_n hx hb dX5_tells_34 rfl (lv_at hl 2 rfl) ?_
            refine lv_iload hx hb dX5_tells_35 (lv_at hl 0 rfl) ?_
            refine hv_callir (va_runV (As := [.int (nI k)]) (rest := [.ref o]) ⟨hx, hb, hml, hown, hts⟩ (met_X5_edge l G hM k (show 13 + 2 * k < 137 by omega)) (cwV 1 hts (lw_V q2673 q2675 qs49 q106 q2676) rfl rfl rfl (by decide +kernel) ⟨Nat.le_of_ble_eq_true rfl, Nat.le_of_ble_eq_true rfl⟩) (hv_preV hw pk_X5 hM.1) rfl rfl hl.1 rfl (lv_room (Nat.le_of_ble_eq_true rfl)) dX5_tells_37 ⟨Nat.le_of_ble_eq_true rfl, Nat.le_of_ble_eq_true rfl⟩) hw (fun H locs hw => ?_)
            refine lv_iload_n hx hb dX5_tells_40 rfl (lv_at hl 3 rfl) ?_
            refine lv_mat1 (P := ((m_with σ (o_with (σ.2 0) e9 k)).2 0 (13 + 2 * k)) = e9) (j := 49) (fun k1 k2 => lv_icmp_ne (tgt := 48) hx hb dX5_tells_41 (by decide) (fun c => lv_iconst (v := 0) hx hb dX5_tells_48 (by decide) (k2 c)) (fun c => lv_iconst (v := 1) hx hb dX5_tells_44 (by decide) (lv_goto (tgt := 49) hx hb dX5_tells_45 (by decide) (k1 c)))) ?_
            refine lv_iconst (v := 4) hx hb dX5_tells_49 (by decide) ?_
            refine lv_iload hx hb dX5_tells_50 (lv_at hl 0 rfl) ?_
            refine mo_callv (va_runV (As := [.int (b01 (((m_with σ (o_with (σ.2 0) e9 k)).2 0 (13 + 2 * k)) = e9)), .int 4, .int (nI k)]) (rest := []) ⟨hx, hb, hml, hown, hts⟩ (met_X5_hinders l G hM (((m_with σ (o_with (σ.2 0) e9 k)).2 0 (13 + 2 * k)) = e9) 4 (nI k) ) (cwV 3 hts (lw_V q2669 q2671 qs48 q106 q2672) rfl rfl rfl (by decide +kernel) ⟨Nat.le_of_ble_eq_true rfl, Nat.le_of_ble_eq_true rfl⟩) (hv_preV hw pk_X5 hM.1) rfl rfl hl.1 rfl (lv_room (Nat.le_of_ble_eq_true rfl)) dX5_tells_52 ⟨Nat.le_of_ble_eq_true rfl, Nat.le_of_ble_eq_true rfl⟩) hw hF (fun hh H locs hM hF hw => ?_)
            have hM : isMod G hh o ma (m_with σ (o_with (σ.2 0) e9 (k + 1))) := by rw [← m_with_s h16]; exact hM
            refine lv_iload_n hx hb dX5_tells_55 rfl (lv_at hl 1 rfl) ?_
            refine lv_aload_n hx hb dX5_tells_56 rfl (lv_at hl 2 rfl) ?_
            refine lv_iload hx hb dX5_tells_57 (lv_at hl 0 rfl) ?_
            refine hv_callir (va_runV (As := [.int (nI k)]) (rest := [.int (nI (o_plc (σ.2 0) e9 k))]) ⟨hx, hb, hml, hown, hts⟩ (met_X5_edge l G hM k (show 13 + 2 * k < 137 by omega)) (cwV 1 hts (lw_V q2673 q2675 qs49 q106 q2676) rfl rfl rfl (by decide +kernel) ⟨Nat.le_of_ble_eq_true rfl, Nat.le_of_ble_eq_true rfl⟩) (hv_preV hw pk_X5 hM.1) rfl rfl hl.1 rfl (lv_room (Nat.le_of_ble_eq_true rfl)) dX5_tells_59 ⟨Nat.le_of_ble_eq_true rfl, Nat.le_of_ble_eq_true rfl⟩) hw (fun H locs hw => ?_)
            refine lv_iload_n hx hb dX5_tells_62 rfl (lv_at hl 3 rfl) ?_
            refine lv_mat0 (P := e9 ≤ ((m_with σ (o_with (σ.2 0) e9 (k + 1))).2 0 (13 + 2 * k))) (j := 71) (fun k1 k2 => lv_icmp_ge (tgt := 70) hx hb dX5_tells_63 (by decide) (fun c => lv_iconst (v := 0) hx hb dX5_tells_70 (by decide) (k1 c)) (fun c => lv_iconst (v := 1) hx hb dX5_tells_66 (by decide) (lv_goto (tgt := 71) hx hb dX5_tells_67 (by decide) (k2 c)))) ?_
            refine lv_iadd hx hb dX5_tells_71 ?_
            refine lv_tope (y := nI (o_plc (σ.2 0) e9 (k + 1))) o_plc_s ?_
            refine lv_istore_n (lv' := [(3, .int (nI (o_plc (σ.2 0) e9 (k + 1)))), (4, .int (nI k)), (0, .ref o), (1, .int e9), (2, .int r9)]) hx hb dX5_tells_72 rfl hl (by decide) rfl (fun ls hl => ?_)
            refine lv_iinc (v := nI (k + 1)) (lv' := [(4, .int (nI (k + 1))), (3, .int (nI (o_plc (σ.2 0) e9 (k + 1)))), (0, .ref o), (1, .int e9), (2, .int r9)]) hx hb dX5_tells_73 hl (k := 1) rfl (by simp only [nI, Int32.ofNat_add] <;> rfl) (by decide) rfl (fun ls hl => ?_)
            refine lv_goto (tgt := 22) hx hb dX5_tells_76 (by decide) ?_
            exact ih (k + 1) _ _ _ _ (by omega) (by omega) hM hF hw (lv_sub hl [0, 1, 2, 3, 4] rfl)
      exact LP22 _ 0 _ _ _ _ (Nat.lt_succ_self _) (by omega) hM hF hw (lv_sub hl [0, 1, 2, 3, 4] rfl)
