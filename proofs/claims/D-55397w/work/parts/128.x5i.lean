set_option maxRecDepth 100000
set_option maxHeartbeats 400000 in
theorem met_X5_uses (l : Launch) (G : hG) {h : hp} {o : Nat} {ma : Nat → Nat} {σ : MS} (hM : isMod G h o ma σ) (c9 : Nat) (t9 : Int32) (hhd : σ.2 0 (23 + 19 * c9 + 6) = nI (o_held (σ.2 0) c9) ∧ o_held (σ.2 0) c9 ≤ 3) (hy1 : c9 < 6) : mo_Mi l G yX5_uses (ws_ yX5_uses cX5_uses 6 (Option.some Jvm.ClassFile.FieldType.int)) ({ frames := 1, cells := 0, slots := 0, locals := 23 } : Room) [.ref o, .int (nI c9), .int t9] h o ma ((o_use (σ.2 0) c9 t9 (o_held (σ.2 0) c9)).2) (mo_na σ (o_use (σ.2 0) c9 t9 (o_held (σ.2 0) c9)).1) := by
  refine hv_bi .int (Or.inl rfl) (own := RX5) (by decide +kernel) rfl (Nat.le_of_ble_eq_true rfl) (fun p e s m a below meth c ls Q hx hb hml hown hts hnm hret hw hl => ?_)
  have hl : lv_has ls 6 [(0, .ref o), (1, .int (nI c9)), (2, .int t9)] := hl
  have hF : mo_fr o ma h h := mo_fr.rf
  have hh3 := hhd.2
  refine lv_iload_n hx hb dX5_uses_0 rfl (lv_at hl 2 rfl) ?_
  refine lv_istore_n (lv' := [(3, .int t9), (0, .ref o), (1, .int (nI c9)), (2, .int t9)]) hx hb dX5_uses_1 rfl hl (by decide) rfl (fun ls hl => ?_)
  refine lv_iconst (v := 0) hx hb dX5_uses_2 (by decide) ?_
  refine lv_istore (lv' := [(4, .int 0), (3, .int t9), (0, .ref o), (1, .int (nI c9)), (2, .int t9)]) hx hb dX5_uses_3 hl (by decide) rfl (fun ls hl => ?_)
  have hM : isMod G h o ma (mo_na σ (o_use (σ.2 0) c9 t9 0).1) := by show isMod G h o ma (mo_na σ (σ.2 0)); rw [mo_na_self]; exact hM
  have LP5 : ∀ (n5 : Nat) (k : Nat) (hh : hp) (H : Heap) (locs : List Loc) (ls : Array Slot), o_held (σ.2 0) c9 - k < n5 → k ≤ o_held (σ.2 0) c9 → isMod G hh o ma (mo_na σ ((o_use (σ.2 0) c9 t9 k).1)) → mo_fr o ma h hh → hv_W G s hh H locs → lv_has ls 6 [(4, .int (nI k)), (3, .int ((o_use (σ.2 0) c9 t9 k).2)), (0, .ref o), (1, .int (nI c9)), (2, .int t9)] → W p l e ({ frames := 1, cells := 0, slots := 0, locals := 23 } : Room) s m a below meth c H locs 0 0 Q (F0 m 5 ls []) := by
    intro n5
    induction n5 with
    | zero => exact fun k hh H locs ls hmu5 => absurd hmu5 (Nat.not_lt_zero _)
    | succ n5 ih5 =>
      intro k hh H locs ls hmu5 hkk hM hF hw hl
      refine lv_iload hx hb dX5_uses_5 (lv_at hl 0 rfl) ?_
      refine lv_aload_n hx hb dX5_uses_7 rfl (lv_at hl 2 rfl) ?_
      refine lv_iload_n hx hb dX5_uses_8 rfl (lv_at hl 3 rfl) ?_
      refine lv_bipush (v := 6) hx hb dX5_uses_9 (by decide) ?_
      refine hv_callir (va_runV (As := [.int (nI c9), .int 6]) (rest := [.int (nI k)]) ⟨hx, hb, hml, hown, hts⟩ (met_X5_of l G hM c9 6 (show 23 + 19 * c9 + 6 < 137 by omega)) (cwV 2 hts (lw_V q2740 q2742 qs59 q106 q2743) rfl rfl rfl (by decide +kernel) ⟨Nat.le_of_ble_eq_true rfl, Nat.le_of_ble_eq_true rfl⟩) (hv_preV hw pk_X5 hM.1) rfl rfl hl.1 rfl (lv_room (Nat.le_of_ble_eq_true rfl)) dX5_uses_11 ⟨Nat.le_of_ble_eq_true rfl, Nat.le_of_ble_eq_true rfl⟩) hw (fun H locs hw => ?_)
      refine lv_tope (y := ((o_use (σ.2 0) c9 t9 k).1) (23 + 19 * c9 + 6)) ((congrFun mo_na_2 _)) ?_
      refine lv_icmp_ge (tgt := 61) hx hb dX5_uses_14 (by decide) (fun c14 => ?_) (fun c14 => ?_)
      · skip
        have hxk : o_held (σ.2 0) c9 ≤ k := cmp_le c14 ((o_use_ne (fun i => by unfold o_at; omega) _).trans hhd.1) rfl (by omega) (by omega)
        obtain rfl : k = o_held (σ.2 0) c9 := by omega
        refine lv_iload_n hx hb dX5_uses_61 rfl (lv_at hl 1 rfl) ?_
        exact hret rfl hw ⟨rfl, hM, hF⟩ (Nat.le_of_ble_eq_true rfl) (Nat.le_of_ble_eq_true rfl) dX5_uses_62
      · skip
        have hxk : k < o_held (σ.2 0) c9 := cmp_nle c14 ((o_use_ne (fun i => by unfold o_at; omega) _).trans hhd.1) rfl (by omega) (by omega)
        refine lv_iload_n hx hb dX5_uses_17 rfl (lv_at hl 1 rfl) ?_
        refine lv_aload_n hx hb dX5_uses_18 rfl (lv_at hl 2 rfl) ?_
        refine lv_iload_n hx hb dX5_uses_19 rfl (lv_at hl 3 rfl) ?_
        refine lv_bipush (v := 7) hx hb dX5_uses_20 (by decide) ?_
        refine lv_iconst (v := 2) hx hb dX5_uses_22 (by decide) ?_
        refine lv_iload hx hb dX5_uses_23 (lv_at hl 0 rfl) ?_
        refine lv_imul hx hb dX5_uses_25 ?_
        refine lv_tope (y := nI (2 * k)) (by simp only [nI, Int32.ofNat_add, Int32.ofNat_mul] <;> rfl) ?_
        refine lv_iadd hx hb dX5_uses_26 ?_
        refine lv_tope (y := nI (7 + 2 * k)) (by simp only [nI, Int32.ofNat_add, Int32.ofNat_mul] <;> rfl) ?_
        refine hv_callir (va_runV (As := [.int (nI c9), .int (nI (7 + 2 * k))]) (rest := [.int ((o_use (σ.2 0) c9 t9 k).2)]) ⟨hx, hb, hml, hown, hts⟩ (met_X5_of l G hM c9 (7 + 2 * k) (show 23 + 19 * c9 + (7 + 2 * k) < 137 by omega)) (cwV 2 hts (lw_V q2740 q2742 qs59 q106 q2743) rfl rfl rfl (by decide +kernel) ⟨Nat.le_of_ble_eq_true rfl, Nat.le_of_ble_eq_true rfl⟩) (hv_preV hw pk_X5 hM.1) rfl rfl hl.1 rfl (lv_room (Nat.le_of_ble_eq_true rfl)) dX5_uses_27 ⟨Nat.le_of_ble_eq_true rfl, Nat.le_of_ble_eq_true rfl⟩) hw (fun H locs hw => ?_)
        refine lv_tope (y := ((o_use (σ.2 0) c9 t9 k).1) (23 + 19 * c9 + (7 + 2 * k))) ((congrFun mo_na_2 _)) ?_
        refine va_mmin hx hb (hml.trans hl.1.symm) hown (hts _ q2772) (hts _ q554) (hts _ q113) (hts _ q555) (Nat.le_of_ble_eq_true rfl) (Nat.le_of_ble_eq_true rfl) (Nat.le_of_ble_eq_true rfl) (Nat.le_of_ble_eq_true rfl) dX5_uses_30 ?_
        refine lv_tope (y := mn ((o_use (σ.2 0) c9 t9 k).2) (((o_use (σ.2 0) c9 t9 k).1) (23 + 19 * c9 + (7 + 2 * k)))) rfl ?_
        refine lv_istore (lv' := [(5, .int (mn ((o_use (σ.2 0) c9 t9 k).2) (((o_use (σ.2 0) c9 t9 k).1) (23 + 19 * c9 + (7 + 2 * k))))), (4, .int (nI k)), (3, .int ((o_use (σ.2 0) c9 t9 k).2)), (0, .ref o), (1, .int (nI c9)), (2, .int t9)]) hx hb dX5_uses_33 hl (by decide) rfl (fun ls hl => ?_)
        refine lv_aload_n hx hb dX5_uses_35 rfl (lv_at hl 3 rfl) ?_
        refine lv_iload_n hx hb dX5_uses_36 rfl (lv_at hl 4 rfl) ?_
        refine lv_bipush (v := 7) hx hb dX5_uses_37 (by decide) ?_
        refine lv_iconst (v := 2) hx hb dX5_uses_39 (by decide) ?_
        refine lv_iload hx hb dX5_uses_40 (lv_at hl 1 rfl) ?_
        refine lv_imul hx hb dX5_uses_42 ?_
        refine lv_tope (y := nI (2 * k)) (by simp only [nI, Int32.ofNat_add, Int32.ofNat_mul] <;> rfl) ?_
        refine lv_iadd hx hb dX5_uses_43 ?_
        refine lv_tope (y := nI (7 + 2 * k)) (by simp only [nI, Int32.ofNat_add, Int32.ofNat_mul] <;> rfl) ?_
        refine lv_iload hx hb dX5_uses_44 (lv_at hl 0 rfl) ?_
        refine lv_ineg hx hb dX5_uses_46 ?_
        refine mo_callv (va_runV (As := [.int (nI c9), .int (nI (7 + 2 * k)), .int (-(mn ((o_use (σ.2 0) c9 t9 k).2) (((o_use (σ.2 0) c9 t9 k).1) (23 + 19 * c9 + (7 + 2 * k)))))]) (rest := []) ⟨hx, hb, hml, hown, hts⟩ (met_X5_gets l G hM c9 (7 + 2 * k) (-(mn ((o_use (σ.2 0) c9 t9 k).2) (((o_use (σ.2 0) c9 t9 k).1) (23 + 19 * c9 + (7 + 2 * k))))) (show 23 + 19 * c9 + (7 + 2 * k) < 137 by omega) (((o_use (σ.2 0) c9 t9 k).1) (23 + 19 * c9 + (7 + 2 * k))) (congrFun mo_na_2 _)) (cwV 3 hts (lw_V q2748 q2750 qs61 q106 q2751) rfl rfl rfl (by decide +kernel) ⟨Nat.le_of_ble_eq_true rfl, Nat.le_of_ble_eq_true rfl⟩) (hv_preV hw pk_X5 hM.1) rfl rfl hl.1 rfl (lv_room (Nat.le_of_ble_eq_true rfl)) dX5_uses_47 ⟨Nat.le_of_ble_eq_true rfl, Nat.le_of_ble_eq_true rfl⟩) hw hF (fun hh H locs hM hF hw => ?_)
        rw [mo_na_sa] at hM
        refine lv_iload_n hx hb dX5_uses_50 rfl (lv_at hl 2 rfl) ?_
        refine lv_iload hx hb dX5_uses_51 (lv_at hl 0 rfl) ?_
        refine lv_isub hx hb dX5_uses_53 ?_
        refine lv_istore_n (lv' := [(3, .int (((o_use (σ.2 0) c9 t9 k).2) - (mn ((o_use (σ.2 0) c9 t9 k).2) (((o_use (σ.2 0) c9 t9 k).1) (23 + 19 * c9 + (7 + 2 * k)))))), (5, .int (mn ((o_use (σ.2 0) c9 t9 k).2) (((o_use (σ.2 0) c9 t9 k).1) (23 + 19 * c9 + (7 + 2 * k))))), (4, .int (nI k)), (0, .ref o), (1, .int (nI c9)), (2, .int t9)]) hx hb dX5_uses_54 rfl hl (by decide) rfl (fun ls hl => ?_)
        refine lv_iinc (v := nI (k + 1)) (lv' := [(4, .int (nI (k + 1))), (3, .int (((o_use (σ.2 0) c9 t9 k).2) - (mn ((o_use (σ.2 0) c9 t9 k).2) (((o_use (σ.2 0) c9 t9 k).1) (23 + 19 * c9 + (7 + 2 * k)))))), (5, .int (mn ((o_use (σ.2 0) c9 t9 k).2) (((o_use (σ.2 0) c9 t9 k).1) (23 + 19 * c9 + (7 + 2 * k))))), (0, .ref o), (1, .int (nI c9)), (2, .int t9)]) hx hb dX5_uses_55 hl (k := 2) rfl (by simp only [nI, Int32.ofNat_add] <;> rfl) (by decide) rfl (fun ls hl => ?_)
        refine lv_goto (tgt := 5) hx hb dX5_uses_58 (by decide) ?_
        exact ih5 (k + 1) _ _ _ _ (by omega) (by omega) hM hF hw (lv_sub hl [0, 1, 3, 4, 5] rfl)
  exact LP5 _ 0 _ _ _ _ (Nat.lt_succ_self _) (by omega) hM hF hw (lv_sub hl [0, 1, 2, 3, 4] rfl)
set_option maxHeartbeats 2000000 in
theorem met_X5_ages (l : Launch) (G : hG) {h : hp} {o : Nat} {ma : Nat → Nat} {σ : MS} (hM : isMod G h o ma σ) (c9 : Nat) (f9 : Int32) (hhd : σ.2 0 (23 + 19 * c9 + 6) = nI (o_held (σ.2 0) c9) ∧ o_held (σ.2 0) c9 ≤ 3) (hy1 : c9 < 6) : mo_Mv l G yX5_ages (ws_ yX5_ages cX5_ages 7 (Option.none : Option Jvm.ClassFile.FieldType)) ({ frames := 1, cells := 0, slots := 0, locals := 23 } : Room) [.ref o, .int (nI c9), .int f9] h o ma (mo_na σ (o_ages (σ.2 0) c9 f9)) := by
  refine hv_bv (own := RX5) (by decide +kernel) rfl (Nat.le_of_ble_eq_true rfl) (fun p e s m a below meth c ls Q hx hb hml hown hts hnm hret hw hl => ?_)
  have hl : lv_has ls 7 [(0, .ref o), (1, .int (nI c9)), (2, .int f9)] := hl
  have hF : mo_fr o ma h h := mo_fr.rf
  have hh3 := hhd.2
  refine lv_iconst (v := 0) hx hb dX5_ages_0 (by decide) ?_
  refine lv_istore_n (lv' := [(3, .int 0), (0, .ref o), (1, .int (nI c9)), (2, .int f9)]) hx hb dX5_ages_1 rfl hl (by decide) rfl (fun ls hl => ?_)
  refine lv_iconst (v := 0) hx hb dX5_ages_2 (by decide) ?_
  refine lv_istore (lv' := [(4, .int 0), (3, .int 0), (0, .ref o), (1, .int (nI c9)), (2, .int f9)]) hx hb dX5_ages_3 hl (by decide) rfl (fun ls hl => ?_)
  have hM : isMod G h o ma (mo_na σ (o_age (σ.2 0) c9 0).1) := by show isMod G h o ma (mo_na σ (σ.2 0)); rw [mo_na_self]; exact hM
  have LP5 : ∀ (n5 : Nat) (k : Nat) (hh : hp) (H : Heap) (locs : List Loc) (ls : Array Slot), o_held (σ.2 0) c9 - k < n5 → k ≤ o_held (σ.2 0) c9 → isMod G hh o ma (mo_na σ ((o_age (σ.2 0) c9 k).1)) → mo_fr o ma h hh → hv_W G s hh H locs → lv_has ls 7 [(4, .int (nI k)), (3, .int (nI (o_age (σ.2 0) c9 k).2)), (0, .ref o), (1, .int (nI c9)), (2, .int f9)] → W p l e ({ frames := 1, cells := 0, slots := 0, locals := 23 } : Room) s m a below meth c H locs 0 0 Q (F0 m 5 ls []) := by
    intro n5
    induction n5 with
    | zero => exact fun k hh H locs ls hmu5 => absurd hmu5 (Nat.not_lt_zero _)
    | succ n5 ih5 =>
      intro k hh H locs ls hmu5 hkk hM hF hw hl
      refine lv_iload hx hb dX5_ages_5 (lv_at hl 0 rfl) ?_
      refine lv_aload_n hx hb dX5_ages_7 rfl (lv_at hl 2 rfl) ?_
      refine lv_iload_n hx hb dX5_ages_8 rfl (lv_at hl 3 rfl) ?_
      refine lv_bipush (v := 6) hx hb dX5_ages_9 (by decide) ?_
      refine hv_callir (va_runV (As := [.int (nI c9), .int 6]) (rest := [.int (nI k)]) ⟨hx, hb, hml, hown, hts⟩ (met_X5_of l G hM c9 6 (show 23 + 19 * c9 + 6 < 137 by omega)) (cwV 2 hts (lw_V q2740 q2742 qs59 q106 q2743) rfl rfl rfl (by decide +kernel) ⟨Nat.le_of_ble_eq_true rfl, Nat.le_of_ble_eq_true rfl⟩) (hv_preV hw pk_X5 hM.1) rfl rfl hl.1 rfl (lv_room (Nat.le_of_ble_eq_true rfl)) dX5_ages_11 ⟨Nat.le_of_ble_eq_true rfl, Nat.le_of_ble_eq_true rfl⟩) hw (fun H locs hw => ?_)
      refine lv_tope (y := ((o_age (σ.2 0) c9 k).1) (23 + 19 * c9 + 6)) ((congrFun mo_na_2 _)) ?_
      refine lv_icmp_ge (tgt := 97) hx hb dX5_ages_14 (by decide) (fun c14 => ?_) (fun c14 => ?_)
      · skip
        have hxk : o_held (σ.2 0) c9 ≤ k := cmp_le c14 ((o_age_ne (fun i => by unfold o_at; omega) _).trans hhd.1) rfl (by omega) (by omega)
        obtain rfl : k = o_held (σ.2 0) c9 := by omega
        have hle9 := o_age_le (a := σ.2 0) (c := c9) (o_held (σ.2 0) c9)
        refine lv_iload_n hx hb dX5_ages_97 rfl (lv_at hl 4 rfl) ?_
        refine lv_if_le (tgt := 130) hx hb dX5_ages_98 (by decide) (fun c98 => ?_) (fun c98 => ?_)
        · skip
          have ea : o_add (o_age (σ.2 0) c9 (o_held (σ.2 0) c9)) c9 f9 = (o_age (σ.2 0) c9 (o_held (σ.2 0) c9)) := if_neg (Int32.not_lt.mpr c98)
          have hM : isMod G hh o ma (mo_na σ (o_add (o_age (σ.2 0) c9 (o_held (σ.2 0) c9)) c9 f9).1) := by rw [ea]; exact hM
          have e7 : (o_age (σ.2 0) c9 (o_held (σ.2 0) c9)).2 = (o_add (o_age (σ.2 0) c9 (o_held (σ.2 0) c9)) c9 f9).2 := by rw [ea]
          rw [e7] at hl
          have hm9 : (o_add (o_age (σ.2 0) c9 (o_held (σ.2 0) c9)) c9 f9).2 ≤ 4 := by rw [← e7]; omega
          refine lv_aload_n hx hb dX5_ages_130 rfl (lv_at hl 2 rfl) ?_
          refine lv_iload_n hx hb dX5_ages_131 rfl (lv_at hl 3 rfl) ?_
          refine lv_bipush (v := 6) hx hb dX5_ages_132 (by decide) ?_
          refine lv_iload_n hx hb dX5_ages_134 rfl (lv_at hl 1 rfl) ?_
          refine mo_callv (va_runV (As := [.int (nI c9), .int 6, .int (nI (o_add (o_age (σ.2 0) c9 (o_held (σ.2 0) c9)) c9 f9).2)]) (rest := []) ⟨hx, hb, hml, hown, hts⟩ (met_X5_becomes l G hM c9 6 (nI (o_add (o_age (σ.2 0) c9 (o_held (σ.2 0) c9)) c9 f9).2) (show 23 + 19 * c9 + 6 < 137 by omega)) (cwV 3 hts (lw_V q2744 q2746 qs60 q106 q2747) rfl rfl rfl (by decide +kernel) ⟨Nat.le_of_ble_eq_true rfl, Nat.le_of_ble_eq_true rfl⟩) (hv_preV hw pk_X5 hM.1) rfl rfl hl.1 rfl (lv_room (Nat.le_of_ble_eq_true rfl)) dX5_ages_135 ⟨Nat.le_of_ble_eq_true rfl, Nat.le_of_ble_eq_true rfl⟩) hw hF (fun hh H locs hM hF hw => ?_)
          rw [mo_na_sa] at hM
          refine lv_iconst (v := 2) hx hb dX5_ages_138 (by decide) ?_
          refine lv_iload_n hx hb dX5_ages_139 rfl (lv_at hl 1 rfl) ?_
          refine lv_imul hx hb dX5_ages_140 ?_
          refine lv_tope (y := nI (2 * (o_add (o_age (σ.2 0) c9 (o_held (σ.2 0) c9)) c9 f9).2)) (by simp only [nI, Int32.ofNat_add, Int32.ofNat_mul] <;> rfl) ?_
          refine lv_istore (lv' := [(4, .int (nI (2 * (o_add (o_age (σ.2 0) c9 (o_held (σ.2 0) c9)) c9 f9).2))), (3, .int (nI (o_add (o_age (σ.2 0) c9 (o_held (σ.2 0) c9)) c9 f9).2)), (0, .ref o), (1, .int (nI c9)), (2, .int f9)]) hx hb dX5_ages_141 hl (by decide) rfl (fun ls hl => ?_)
          have hM : isMod G hh o ma (mo_na σ (o_zero (upd (o_add (o_age (σ.2 0) c9 (o_held (σ.2 0) c9)) c9 f9).1 (o_at c9 6) (nI (o_add (o_age (σ.2 0) c9 (o_held (σ.2 0) c9)) c9 f9).2)) c9 (7 + 2 * (o_add (o_age (σ.2 0) c9 (o_held (σ.2 0) c9)) c9 f9).2) (2 * (o_add (o_age (σ.2 0) c9 (o_held (σ.2 0) c9)) c9 f9).2 - 2 * (o_add (o_age (σ.2 0) c9 (o_held (σ.2 0) c9)) c9 f9).2))) := by rw [Nat.sub_self]; exact hM
          have LP143 : ∀ (n143 : Nat) (k : Nat) (hh : hp) (H : Heap) (locs : List Loc) (ls : Array Slot), 7 - k < n143 → 2 * (o_add (o_age (σ.2 0) c9 (o_held (σ.2 0) c9)) c9 f9).2 ≤ k → k ≤ 6 ∨ k = 2 * (o_add (o_age (σ.2 0) c9 (o_held (σ.2 0) c9)) c9 f9).2 → isMod G hh o ma (mo_na σ (o_zero (upd (o_add (o_age (σ.2 0) c9 (o_held (σ.2 0) c9)) c9 f9).1 (o_at c9 6) (nI (o_add (o_age (σ.2 0) c9 (o_held (σ.2 0) c9)) c9 f9).2)) c9 (7 + 2 * (o_add (o_age (σ.2 0) c9 (o_held (σ.2 0) c9)) c9 f9).2) (k - 2 * (o_add (o_age (σ.2 0) c9 (o_held (σ.2 0) c9)) c9 f9).2))) → mo_fr o ma h hh → hv_W G s hh H locs → lv_has ls 7 [(4, .int (nI k)), (3, .int (nI (o_add (o_age (σ.2 0) c9 (o_held (σ.2 0) c9)) c9 f9).2)), (0, .ref o), (1, .int (nI c9)), (2, .int f9)] → W p l e ({ frames := 1, cells := 0, slots := 0, locals := 23 } : Room) s m a below meth c H locs 0 0 Q (F0 m 143 ls []) := by
            intro n143
            induction n143 with
            | zero => exact fun k hh H locs ls hmu143 => absurd hmu143 (Nat.not_lt_zero _)
            | succ n143 ih143 =>
              intro k hh H locs ls hmu143 hkl hku hM hF hw hl
              refine lv_iload hx hb dX5_ages_143 (lv_at hl 0 rfl) ?_
              refine lv_bipush (v := 6) hx hb dX5_ages_145 (by decide) ?_
              refine lv_icmp_ge (tgt := 167) hx hb dX5_ages_147 (by decide) (fun c147 => ?_) (fun c147 => ?_)
              · skip
                have hk6 : 6 ≤ k := cmp_le (a := 6) c147 rfl rfl (by omega) (by omega)
                have ek : k - 2 * (o_add (o_age (σ.2 0) c9 (o_held (σ.2 0) c9)) c9 f9).2 = 6 - 2 * (o_add (o_age (σ.2 0) c9 (o_held (σ.2 0) c9)) c9 f9).2 := by omega
                rw [ek] at hM
                exact hret hw ⟨hM, hF⟩ (Nat.le_of_ble_eq_true rfl) (Nat.le_of_ble_eq_true rfl) dX5_ages_167
              · skip
                have hk6 : k < 6 := cmp_nle (a := 6) c147 rfl rfl (by omega) (by omega)
                refine lv_aload_n hx hb dX5_ages_150 rfl (lv_at hl 2 rfl) ?_
                refine lv_iload_n hx hb dX5_ages_151 rfl (lv_at hl 3 rfl) ?_
                refine lv_bipush (v := 7) hx hb dX5_ages_152 (by decide) ?_
                refine lv_iload hx hb dX5_ages_154 (lv_at hl 0 rfl) ?_
                refine lv_iadd hx hb dX5_ages_156 ?_
                refine lv_tope (y := nI (7 + k)) (by simp only [nI, Int32.ofNat_add, Int32.ofNat_mul] <;> rfl) ?_
                refine lv_iconst (v := 0) hx hb dX5_ages_157 (by decide) ?_
                refine mo_callv (va_runV (As := [.int (nI c9), .int (nI (7 + k)), .int 0]) (rest := []) ⟨hx, hb, hml, hown, hts⟩ (met_X5_becomes l G hM c9 (7 + k) 0 (show 23 + 19 * c9 + (7 + k) < 137 by omega)) (cwV 3 hts (lw_V q2744 q2746 qs60 q106 q2747) rfl rfl rfl (by decide +kernel) ⟨Nat.le_of_ble_eq_true rfl, Nat.le_of_ble_eq_true rfl⟩) (hv_preV hw pk_X5 hM.1) rfl rfl hl.1 rfl (lv_room (Nat.le_of_ble_eq_true rfl)) dX5_ages_158 ⟨Nat.le_of_ble_eq_true rfl, Nat.le_of_ble_eq_true rfl⟩) hw hF (fun hh H locs hM hF hw => ?_)
                rw [mo_na_sa] at hM
                refine lv_iinc (v := nI (k + 1)) (lv' := [(4, .int (nI (k + 1))), (3, .int (nI (o_add (o_age (σ.2 0) c9 (o_held (σ.2 0) c9)) c9 f9).2)), (0, .ref o), (1, .int (nI c9)), (2, .int f9)]) hx hb dX5_ages_161 hl (k := 0) rfl (by simp only [nI, Int32.ofNat_add] <;> rfl) (by decide) rfl (fun ls hl => ?_)
                refine lv_goto (tgt := 143) hx hb dX5_ages_164 (by decide) ?_
                have hM : isMod G hh o ma (mo_na σ (o_zero (upd (o_add (o_age (σ.2 0) c9 (o_held (σ.2 0) c9)) c9 f9).1 (o_at c9 6) (nI (o_add (o_age (σ.2 0) c9 (o_held (σ.2 0) c9)) c9 f9).2)) c9 (7 + 2 * (o_add (o_age (σ.2 0) c9 (o_held (σ.2 0) c9)) c9 f9).2) ((k + 1) - 2 * (o_add (o_age (σ.2 0) c9 (o_held (σ.2 0) c9)) c9 f9).2))) := by rw [show k + 1 - 2 * (o_add (o_age (σ.2 0) c9 (o_held (σ.2 0) c9)) c9 f9).2 = (k - 2 * (o_add (o_age (σ.2 0) c9 (o_held (σ.2 0) c9)) c9 f9).2) + 1 by omega]; show isMod G hh o ma (mo_na σ (upd (o_zero (upd (o_add (o_age (σ.2 0) c9 (o_held (σ.2 0) c9)) c9 f9).1 (o_at c9 6) (nI (o_add (o_age (σ.2 0) c9 (o_held (σ.2 0) c9)) c9 f9).2)) c9 (7 + 2 * (o_add (o_age (σ.2 0) c9 (o_held (σ.2 0) c9)) c9 f9).2) (k - 2 * (o_add (o_age (σ.2 0) c9 (o_held (σ.2 0) c9)) c9 f9).2)) (o_at c9 (7 + 2 * (o_add (o_age (σ.2 0) c9 (o_held (σ.2 0) c9)) c9 f9).2 + (k - 2 * (o_add (o_age (σ.2 0) c9 (o_held (σ.2 0) c9)) c9 f9).2))) 0)); rw [show 7 + 2 * (o_add (o_age (σ.2 0) c9 (o_held (σ.2 0) c9)) c9 f9).2 + (k - 2 * (o_add (o_age (σ.2 0) c9 (o_held (σ.2 0) c9)) c9 f9).2) = 7 + k by omega]; exact hM
                exact ih143 (k + 1) _ _ _ _ (by omega) (by omega) (by omega) hM hF hw (lv_sub hl [0, 1, 2, 3, 4] rfl)
          exact LP143 _ (2 * (o_add (o_age (σ.2 0) c9 (o_held (σ.2 0) c9)) c9 f9).2) _ _ _ _ (Nat.lt_succ_self _) (by omega) (by omega) hM hF hw (lv_sub hl [0, 1, 2, 3, 4] rfl)
        · skip
          have ea : o_add (o_age (σ.2 0) c9 (o_held (σ.2 0) c9)) c9 f9 = (upd (upd (o_age (σ.2 0) c9 (o_held (σ.2 0) c9)).1 (o_at c9 (7 + 2 * (o_age (σ.2 0) c9 (o_held (σ.2 0) c9)).2)) f9) (o_at c9 (7 + 2 * (o_age (σ.2 0) c9 (o_held (σ.2 0) c9)).2 + 1)) 0, (o_age (σ.2 0) c9 (o_held (σ.2 0) c9)).2 + 1) := if_pos (Int32.not_le.mp c98)
          refine lv_aload_n hx hb dX5_ages_101 rfl (lv_at hl 2 rfl) ?_
          refine lv_iload_n hx hb dX5_ages_102 rfl (lv_at hl 3 rfl) ?_
          refine lv_bipush (v := 7) hx hb dX5_ages_103 (by decide) ?_
          refine lv_iconst (v := 2) hx hb dX5_ages_105 (by decide) ?_
          refine lv_iload_n hx hb dX5_ages_106 rfl (lv_at hl 1 rfl) ?_
          refine lv_imul hx hb dX5_ages_107 ?_
          refine lv_tope (y := nI (2 * (o_age (σ.2 0) c9 (o_held (σ.2 0) c9)).2)) (by simp only [nI, Int32.ofNat_add, Int32.ofNat_mul] <;> rfl) ?_
          refine lv_iadd hx hb dX5_ages_108 ?_
          refine lv_tope (y := nI (7 + 2 * (o_age (σ.2 0) c9 (o_held (σ.2 0) c9)).2)) (by simp only [nI, Int32.ofNat_add, Int32.ofNat_mul] <;> rfl) ?_
          refine lv_iload_n hx hb dX5_ages_109 rfl (lv_at hl 4 rfl) ?_
          refine mo_callv (va_runV (As := [.int (nI c9), .int (nI (7 + 2 * (o_age (σ.2 0) c9 (o_held (σ.2 0) c9)).2)), .int f9]) (rest := []) ⟨hx, hb, hml, hown, hts⟩ (met_X5_becomes l G hM c9 (7 + 2 * (o_age (σ.2 0) c9 (o_held (σ.2 0) c9)).2) f9 (show 23 + 19 * c9 + (7 + 2 * (o_age (σ.2 0) c9 (o_held (σ.2 0) c9)).2) < 137 by omega)) (cwV 3 hts (lw_V q2744 q2746 qs60 q106 q2747) rfl rfl rfl (by decide +kernel) ⟨Nat.le_of_ble_eq_true rfl, Nat.le_of_ble_eq_true rfl⟩) (hv_preV hw pk_X5 hM.1) rfl rfl hl.1 rfl (lv_room (Nat.le_of_ble_eq_true rfl)) dX5_ages_110 ⟨Nat.le_of_ble_eq_true rfl, Nat.le_of_ble_eq_true rfl⟩) hw hF (fun hh H locs hM hF hw => ?_)
          rw [mo_na_sa] at hM
          refine lv_aload_n hx hb dX5_ages_113 rfl (lv_at hl 2 rfl) ?_
          refine lv_iload_n hx hb dX5_ages_114 rfl (lv_at hl 3 rfl) ?_
          refine lv_bipush (v := 7) hx hb dX5_ages_115 (by decide) ?_
          refine lv_iconst (v := 2) hx hb dX5_ages_117 (by decide) ?_
          refine lv_iload_n hx hb dX5_ages_118 rfl (lv_at hl 1 rfl) ?_
          refine lv_imul hx hb dX5_ages_119 ?_
          refine lv_tope (y := nI (2 * (o_age (σ.2 0) c9 (o_held (σ.2 0) c9)).2)) (by simp only [nI, Int32.ofNat_add, Int32.ofNat_mul] <;> rfl) ?_
          refine lv_iadd hx hb dX5_ages_120 ?_
          refine lv_tope (y := nI (7 + 2 * (o_age (σ.2 0) c9 (o_held (σ.2 0) c9)).2)) (by simp only [nI, Int32.ofNat_add, Int32.ofNat_mul] <;> rfl) ?_
          refine lv_iconst (v := 1) hx hb dX5_ages_121 (by decide) ?_
          refine lv_iadd hx hb dX5_ages_122 ?_
          refine lv_tope (y := nI (7 + 2 * (o_age (σ.2 0) c9 (o_held (σ.2 0) c9)).2 + 1)) (by simp only [nI, Int32.ofNat_add, Int32.ofNat_mul] <;> rfl) ?_
          refine lv_iconst (v := 0) hx hb dX5_ages_123 (by decide) ?_
          refine mo_callv (va_runV (As := [.int (nI c9), .int (nI (7 + 2 * (o_age (σ.2 0) c9 (o_held (σ.2 0) c9)).2 + 1)), .int 0]) (rest := []) ⟨hx, hb, hml, hown, hts⟩ (met_X5_becomes l G hM c9 (7 + 2 * (o_age (σ.2 0) c9 (o_held (σ.2 0) c9)).2 + 1) 0 (show 23 + 19 * c9 + (7 + 2 * (o_age (σ.2 0) c9 (o_held (σ.2 0) c9)).2 + 1) < 137 by omega)) (cwV 3 hts (lw_V q2744 q2746 qs60 q106 q2747) rfl rfl rfl (by decide +kernel) ⟨Nat.le_of_ble_eq_true rfl, Nat.le_of_ble_eq_true rfl⟩) (hv_preV hw pk_X5 hM.1) rfl rfl hl.1 rfl (lv_room (Nat.le_of_ble_eq_true rfl)) dX5_ages_124 ⟨Nat.le_of_ble_eq_true rfl, Nat.le_of_ble_eq_true rfl⟩) hw hF (fun hh H locs hM hF hw => ?_)
          rw [mo_na_sa] at hM
          refine lv_iinc (v := nI ((o_age (σ.2 0) c9 (o_held (σ.2 0) c9)).2 + 1)) (lv' := [(3, .int (nI ((o_age (σ.2 0) c9 (o_held (σ.2 0) c9)).2 + 1))), (4, .int (nI (o_held (σ.2 0) c9))), (0, .ref o), (1, .int (nI c9)), (2, .int f9)]) hx hb dX5_ages_127 hl (k := 1) rfl (by simp only [nI, Int32.ofNat_add] <;> rfl) (by decide) rfl (fun ls hl => ?_)
          have hM : isMod G hh o ma (mo_na σ (o_add (o_age (σ.2 0) c9 (o_held (σ.2 0) c9)) c9 f9).1) := by rw [ea]; exact hM
          have e7 : (o_age (σ.2 0) c9 (o_held (σ.2 0) c9)).2 + 1 = (o_add (o_age (σ.2 0) c9 (o_held (σ.2 0) c9)) c9 f9).2 := by rw [ea]
          rw [e7] at hl
          have hm9 : (o_add (o_age (σ.2 0) c9 (o_held (σ.2 0) c9)) c9 f9).2 ≤ 4 := by rw [← e7]; omega
          refine lv_aload_n hx hb dX5_ages_130 rfl (lv_at hl 2 rfl) ?_
          refine lv_iload_n hx hb dX5_ages_131 rfl (lv_at hl 3 rfl) ?_
          refine lv_bipush (v := 6) hx hb dX5_ages_132 (by decide) ?_
          refine lv_iload_n hx hb dX5_ages_134 rfl (lv_at hl 0 rfl) ?_
          refine mo_callv (va_runV (As := [.int (nI c9), .int 6, .int (nI (o_add (o_age (σ.2 0) c9 (o_held (σ.2 0) c9)) c9 f9).2)]) (rest := []) ⟨hx, hb, hml, hown, hts⟩ (met_X5_becomes l G hM c9 6 (nI (o_add (o_age (σ.2 0) c9 (o_held (σ.2 0) c9)) c9 f9).2) (show 23 + 19 * c9 + 6 < 137 by omega)) (cwV 3 hts (lw_V q2744 q2746 qs60 q106 q2747) rfl rfl rfl (by decide +kernel) ⟨Nat.le_of_ble_eq_true rfl, Nat.le_of_ble_eq_true rfl⟩) (hv_preV hw pk_X5 hM.1) rfl rfl hl.1 rfl (lv_room (Nat.le_of_ble_eq_true rfl)) dX5_ages_135 ⟨Nat.le_of_ble_eq_true rfl, Nat.le_of_ble_eq_true rfl⟩) hw hF (fun hh H locs hM hF hw => ?_)
          rw [mo_na_sa] at hM
          refine lv_iconst (v := 2) hx hb dX5_ages_138 (by decide) ?_
          refine lv_iload_n hx hb dX5_ages_139 rfl (lv_at hl 0 rfl) ?_
          refine lv_imul hx hb dX5_ages_140 ?_
          refine lv_tope (y := nI (2 * (o_add (o_age (σ.2 0) c9 (o_held (σ.2 0) c9)) c9 f9).2)) (by simp only [nI, Int32.ofNat_add, Int32.ofNat_mul] <;> rfl) ?_
          refine lv_istore (lv' := [(4, .int (nI (2 * (o_add (o_age (σ.2 0) c9 (o_held (σ.2 0) c9)) c9 f9).2))), (3, .int (nI (o_add (o_age (σ.2 0) c9 (o_held (σ.2 0) c9)) c9 f9).2)), (0, .ref o), (1, .int (nI c9)), (2, .int f9)]) hx hb dX5_ages_141 hl (by decide) rfl (fun ls hl => ?_)
          have hM : isMod G hh o ma (mo_na σ (o_zero (upd (o_add (o_age (σ.2 0) c9 (o_held (σ.2 0) c9)) c9 f9).1 (o_at c9 6) (nI (o_add (o_age (σ.2 0) c9 (o_held (σ.2 0) c9)) c9 f9).2)) c9 (7 + 2 * (o_add (o_age (σ.2 0) c9 (o_held (σ.2 0) c9)) c9 f9).2) (2 * (o_add (o_age (σ.2 0) c9 (o_held (σ.2 0) c9)) c9 f9).2 - 2 * (o_add (o_age (σ.2 0) c9 (o_held (σ.2 0) c9)) c9 f9).2))) := by rw [Nat.sub_self]; exact hM
          have LP143 : ∀ (n143 : Nat) (k : Nat) (hh : hp) (H : Heap) (locs : List Loc) (ls : Array Slot), 7 - k < n143 → 2 * (o_add (o_age (σ.2 0) c9 (o_held (σ.2 0) c9)) c9 f9).2 ≤ k → k ≤ 6 ∨ k = 2 * (o_add (o_age (σ.2 0) c9 (o_held (σ.2 0) c9)) c9 f9).2 → isMod G hh o ma (mo_na σ (o_zero (upd (o_add (o_age (σ.2 0) c9 (o_held (σ.2 0) c9)) c9 f9).1 (o_at c9 6) (nI (o_add (o_age (σ.2 0) c9 (o_held (σ.2 0) c9)) c9 f9).2)) c9 (7 + 2 * (o_add (o_age (σ.2 0) c9 (o_held (σ.2 0) c9)) c9 f9).2) (k - 2 * (o_add (o_age (σ.2 0) c9 (o_held (σ.2 0) c9)) c9 f9).2))) → mo_fr o ma h hh → hv_W G s hh H locs → lv_has ls 7 [(4, .int (nI k)), (3, .int (nI (o_add (o_age (σ.2 0) c9 (o_held (σ.2 0) c9)) c9 f9).2)), (0, .ref o), (1, .int (nI c9)), (2, .int f9)] → W p l e ({ frames := 1, cells := 0, slots := 0, locals := 23 } : Room) s m a below meth c H locs 0 0 Q (F0 m 143 ls []) := by
            intro n143
            induction n143 with
            | zero => exact fun k hh H locs ls hmu143 => absurd hmu143 (Nat.not_lt_zero _)
            | succ n143 ih143 =>
              intro k hh H locs ls hmu143 hkl hku hM hF hw hl
              refine lv_iload hx hb dX5_ages_143 (lv_at hl 0 rfl) ?_
              refine lv_bipush (v := 6) hx hb dX5_ages_145 (by decide) ?_
              refine lv_icmp_ge (tgt := 167) hx hb dX5_ages_147 (by decide) (fun c147 => ?_) (fun c147 => ?_)
              · skip
                have hk6 : 6 ≤ k := cmp_le (a := 6) c147 rfl rfl (by omega) (by omega)
                have ek : k - 2 * (o_add (o_age (σ.2 0) c9 (o_held (σ.2 0) c9)) c9 f9).2 = 6 - 2 * (o_add (o_age (σ.2 0) c9 (o_held (σ.2 0) c9)) c9 f9).2 := by omega
                rw [ek] at hM
                exact hret hw ⟨hM, hF⟩ (Nat.le_of_ble_eq_true rfl) (Nat.le_of_ble_eq_true rfl) dX5_ages_167
              · skip
                have hk6 : k < 6 := cmp_nle (a := 6) c147 rfl rfl (by omega) (by omega)
                refine lv_aload_n hx hb dX5_ages_150 rfl (lv_at hl 2 rfl) ?_
                refine lv_iload_n hx hb dX5_ages_151 rfl (lv_at hl 3 rfl) ?_
                refine lv_bipush (v := 7) hx hb dX5_ages_152 (by decide) ?_
                refine lv_iload hx hb dX5_ages_154 (lv_at hl 0 rfl) ?_
                refine lv_iadd hx hb dX5_ages_156 ?_
                refine lv_tope (y := nI (7 + k)) (by simp only [nI, Int32.ofNat_add, Int32.ofNat_mul] <;> rfl) ?_
                refine lv_iconst (v := 0) hx hb dX5_ages_157 (by decide) ?_
                refine mo_callv (va_runV (As := [.int (nI c9), .int (nI (7 + k)), .int 0]) (rest := []) ⟨hx, hb, hml, hown, hts⟩ (met_X5_becomes l G hM c9 (7 + k) 0 (show 23 + 19 * c9 + (7 + k) < 137 by omega)) (cwV 3 hts (lw_V q2744 q2746 qs60 q106 q2747) rfl rfl rfl (by decide +kernel) ⟨Nat.le_of_ble_eq_true rfl, Nat.le_of_ble_eq_true rfl⟩) (hv_preV hw pk_X5 hM.1) rfl rfl hl.1 rfl (lv_room (Nat.le_of_ble_eq_true rfl)) dX5_ages_158 ⟨Nat.le_of_ble_eq_true rfl, Nat.le_of_ble_eq_true rfl⟩) hw hF (fun hh H locs hM hF hw => ?_)
                rw [mo_na_sa] at hM
                refine lv_iinc (v := nI (k + 1)) (lv' := [(4, .int (nI (k + 1))), (3, .int (nI (o_add (o_age (σ.2 0) c9 (o_held (σ.2 0) c9)) c9 f9).2)), (0, .ref o), (1, .int (nI c9)), (2, .int f9)]) hx hb dX5_ages_161 hl (k := 0) rfl (by simp only [nI, Int32.ofNat_add] <;> rfl) (by decide) rfl (fun ls hl => ?_)
                refine lv_goto (tgt := 143) hx hb dX5_ages_164 (by decide) ?_
                have hM : isMod G hh o ma (mo_na σ (o_zero (upd (o_add (o_age (σ.2 0) c9 (o_held (σ.2 0) c9)) c9 f9).1 (o_at c9 6) (nI (o_add (o_age (σ.2 0) c9 (o_held (σ.2 0) c9)) c9 f9).2)) c9 (7 + 2 * (o_add (o_age (σ.2 0) c9 (o_held (σ.2 0) c9)) c9 f9).2) ((k + 1) - 2 * (o_add (o_age (σ.2 0) c9 (o_held (σ.2 0) c9)) c9 f9).2))) := by rw [show k + 1 - 2 * (o_add (o_age (σ.2 0) c9 (o_held (σ.2 0) c9)) c9 f9).2 = (k - 2 * (o_add (o_age (σ.2 0) c9 (o_held (σ.2 0) c9)) c9 f9).2) + 1 by omega]; show isMod G hh o ma (mo_na σ (upd (o_zero (upd (o_add (o_age (σ.2 0) c9 (o_held (σ.2 0) c9)) c9 f9).1 (o_at c9 6) (nI (o_add (o_age (σ.2 0) c9 (o_held (σ.2 0) c9)) c9 f9).2)) c9 (7 + 2 * (o_add (o_age (σ.2 0) c9 (o_held (σ.2 0) c9)) c9 f9).2) (k - 2 * (o_add (o_age (σ.2 0) c9 (o_held (σ.2 0) c9)) c9 f9).2)) (o_at c9 (7 + 2 * (o_add (o_age (σ.2 0) c9 (o_held (σ.2 0) c9)) c9 f9).2 + (k - 2 * (o_add (o_age (σ.2 0) c9 (o_held (σ.2 0) c9)) c9 f9).2))) 0)); rw [show 7 + 2 * (o_add (o_age (σ.2 0) c9 (o_held (σ.2 0) c9)) c9 f9).2 + (k - 2 * (o_add (o_age (σ.2 0) c9 (o_held (σ.2 0) c9)) c9 f9).2) = 7 + k by omega]; exact hM
                exact ih143 (k + 1) _ _ _ _ (by omega) (by omega) (by omega) hM hF hw (lv_sub hl [0, 1, 2, 3, 4] rfl)
          exact LP143 _ (2 * (o_add (o_age (σ.2 0) c9 (o_held (σ.2 0) c9)) c9 f9).2) _ _ _ _ (Nat.lt_succ_self _) (by omega) (by omega) hM hF hw (lv_sub hl [0, 1, 2, 3, 4] rfl)
      · skip
        have hxk : k < o_held (σ.2 0) c9 := cmp_nle c14 ((o_age_ne (fun i => by unfold o_at; omega) _).trans hhd.1) rfl (by omega) (by omega)
        refine lv_aload_n hx hb dX5_ages_17 rfl (lv_at hl 2 rfl) ?_
        refine lv_iload_n hx hb dX5_ages_18 rfl (lv_at hl 3 rfl) ?_
        refine lv_bipush (v := 7) hx hb dX5_ages_19 (by decide) ?_
        refine lv_iconst (v := 2) hx hb dX5_ages_21 (by decide) ?_
        refine lv_iload hx hb dX5_ages_22 (lv_at hl 0 rfl) ?_
        refine lv_imul hx hb dX5_ages_24 ?_
        refine lv_tope (y := nI (2 * k)) (by simp only [nI, Int32.ofNat_add, Int32.ofNat_mul] <;> rfl) ?_
        refine lv_iadd hx hb dX5_ages_25 ?_
        refine lv_tope (y := nI (7 + 2 * k)) (by simp only [nI, Int32.ofNat_add, Int32.ofNat_mul] <;> rfl) ?_
        refine hv_callir (va_runV (As := [.int (nI c9), .int (nI (7 + 2 * k))]) (rest := []) ⟨hx, hb, hml, hown, hts⟩ (met_X5_of l G hM c9 (7 + 2 * k) (show 23 + 19 * c9 + (7 + 2 * k) < 137 by omega)) (cwV 2 hts (lw_V q2740 q2742 qs59 q106 q2743) rfl rfl rfl (by decide +kernel) ⟨Nat.le_of_ble_eq_true rfl, Nat.le_of_ble_eq_true rfl⟩) (hv_preV hw pk_X5 hM.1) rfl rfl hl.1 rfl (lv_room (Nat.le_of_ble_eq_true rfl)) dX5_ages_26 ⟨Nat.le_of_ble_eq_true rfl, Nat.le_of_ble_eq_true rfl⟩) hw (fun H locs hw => ?_)
        refine lv_tope (y := ((o_age (σ.2 0) c9 k).1) (23 + 19 * c9 + (7 + 2 * k))) ((congrFun mo_na_2 _)) ?_
        refine lv_istore (lv' := [(5, .int (((o_age (σ.2 0) c9 k).1) (23 + 19 * c9 + (7 + 2 * k)))), (4, .int (nI k)), (3, .int (nI (o_age (σ.2 0) c9 k).2)), (0, .ref o), (1, .int (nI c9)), (2, .int f9)]) hx hb dX5_ages_29 hl (by decide) rfl (fun ls hl => ?_)
        refine lv_aload_n hx hb dX5_ages_31 rfl (lv_at hl 3 rfl) ?_
        refine lv_iload_n hx hb dX5_ages_32 rfl (lv_at hl 4 rfl) ?_
        refine lv_bipush (v := 7) hx hb dX5_ages_33 (by decide) ?_
        refine lv_iconst (v := 2) hx hb dX5_ages_35 (by decide) ?_
        refine lv_iload hx hb dX5_ages_36 (lv_at hl 1 rfl) ?_
        refine lv_imul hx hb dX5_ages_38 ?_
        refine lv_tope (y := nI (2 * k)) (by simp only [nI, Int32.ofNat_add, Int32.ofNat_mul] <;> rfl) ?_
        refine lv_iadd hx hb dX5_ages_39 ?_
        refine lv_tope (y := nI (7 + 2 * k)) (by simp only [nI, Int32.ofNat_add, Int32.ofNat_mul] <;> rfl) ?_
        refine lv_iconst (v := 1) hx hb dX5_ages_40 (by decide) ?_
        refine lv_iadd hx hb dX5_ages_41 ?_
        refine lv_tope (y := nI (7 + 2 * k + 1)) (by simp only [nI, Int32.ofNat_add, Int32.ofNat_mul] <;> rfl) ?_
        refine hv_callir (va_runV (As := [.int (nI c9), .int (nI (7 + 2 * k + 1))]) (rest := []) ⟨hx, hb, hml, hown, hts⟩ (met_X5_of l G hM c9 (7 + 2 * k + 1) (show 23 + 19 * c9 + (7 + 2 * k + 1) < 137 by omega)) (cwV 2 hts (lw_V q2740 q2742 qs59 q106 q2743) rfl rfl rfl (by decide +kernel) ⟨Nat.le_of_ble_eq_true rfl, Nat.le_of_ble_eq_true rfl⟩) (hv_preV hw pk_X5 hM.1) rfl rfl hl.1 rfl (lv_room (Nat.le_of_ble_eq_true rfl)) dX5_ages_42 ⟨Nat.le_of_ble_eq_true rfl, Nat.le_of_ble_eq_true rfl⟩) hw (fun H locs hw => ?_)
        refine lv_tope (y := ((o_age (σ.2 0) c9 k).1) (23 + 19 * c9 + (7 + 2 * k + 1))) ((congrFun mo_na_2 _)) ?_
        refine lv_iconst (v := 1) hx hb dX5_ages_45 (by decide) ?_
        refine lv_iadd hx hb dX5_ages_46 ?_
        refine lv_istore (lv' := [(6, .int ((((o_age (σ.2 0) c9 k).1) (23 + 19 * c9 + (7 + 2 * k + 1))) + 1)), (5, .int (((o_age (σ.2 0) c9 k).1) (23 + 19 * c9 + (7 + 2 * k)))), (4, .int (nI k)), (3, .int (nI (o_age (σ.2 0) c9 k).2)), (0, .ref o), (1, .int (nI c9)), (2, .int f9)]) hx hb dX5_ages_47 hl (by decide) rfl (fun ls hl => ?_)
        refine lv_iload hx hb dX5_ages_49 (lv_at hl 1 rfl) ?_
        refine lv_if_le (tgt := 91) hx hb dX5_ages_51 (by decide) (fun c51 => ?_) (fun c51 => ?_)
        · skip
          have e9 := o_age_f (a := σ.2 0) (c := c9) (k := k) (fun z => absurd z.1 (Int32.not_lt.mpr c51))
          refine lv_iinc (v := nI (k + 1)) (lv' := [(4, .int (nI (k + 1))), (6, .int ((((o_age (σ.2 0) c9 k).1) (23 + 19 * c9 + (7 + 2 * k + 1))) + 1)), (5, .int (((o_age (σ.2 0) c9 k).1) (23 + 19 * c9 + (7 + 2 * k)))), (3, .int (nI (o_age (σ.2 0) c9 k).2)), (0, .ref o), (1, .int (nI c9)), (2, .int f9)]) hx hb dX5_ages_91 hl (k := 2) rfl (by simp only [nI, Int32.ofNat_add] <;> rfl) (by decide) rfl (fun ls hl => ?_)
          refine lv_goto (tgt := 5) hx hb dX5_ages_94 (by decide) ?_
          rw [← e9] at hM hl
          exact ih5 (k + 1) _ _ _ _ (by omega) (by omega) hM hF hw (lv_sub hl [0, 3, 4, 5, 6] rfl)
        · skip
          refine lv_iload hx hb dX5_ages_54 (lv_at hl 0 rfl) ?_
          refine lv_iconst (v := 3) hx hb dX5_ages_56 (by decide) ?_
          refine lv_icmp_ge (tgt := 91) hx hb dX5_ages_57 (by decide) (fun c57 => ?_) (fun c57 => ?_)
          · skip
            have e9 := o_age_f (a := σ.2 0) (c := c9) (k := k) (fun z => absurd z.2 (Int32.not_lt.mpr c57))
            refine lv_iinc (v := nI (k + 1)) (lv' := [(4, .int (nI (k + 1))), (6, .int ((((o_age (σ.2 0) c9 k).1) (23 + 19 * c9 + (7 + 2 * k + 1))) + 1)), (5, .int (((o_age (σ.2 0) c9 k).1) (23 + 19 * c9 + (7 + 2 * k)))), (3, .int (nI (o_age (σ.2 0) c9 k).2)), (0, .ref o), (1, .int (nI c9)), (2, .int f9)]) hx hb dX5_ages_91 hl (k := 2) rfl (by simp only [nI, Int32.ofNat_add] <;> rfl) (by decide) rfl (fun ls hl => ?_)
            refine lv_goto (tgt := 5) hx hb dX5_ages_94 (by decide) ?_
            rw [← e9] at hM hl
            exact ih5 (k + 1) _ _ _ _ (by omega) (by omega) hM hF hw (lv_sub hl [0, 3, 4, 5, 6] rfl)
          · skip
            have e9 := o_age_t (a := σ.2 0) (c := c9) (k := k) ⟨Int32.not_le.mp c51, Int32.not_le.mp c57⟩
            have hle := o_age_le (a := σ.2 0) (c := c9) k
            refine lv_aload_n hx hb dX5_ages_60 rfl (lv_at hl 4 rfl) ?_
            refine lv_iload_n hx hb dX5_ages_61 rfl (lv_at hl 5 rfl) ?_
            refine lv_bipush (v := 7) hx hb dX5_ages_62 (by decide) ?_
            refine lv_iconst (v := 2) hx hb dX5_ages_64 (by decide) ?_
            refine lv_iload_n hx hb dX5_ages_65 rfl (lv_at hl 3 rfl) ?_
            refine lv_imul hx hb dX5_ages_66 ?_
            refine lv_tope (y := nI (2 * (o_age (σ.2 0) c9 k).2)) (by simp only [nI, Int32.ofNat_add, Int32.ofNat_mul] <;> rfl) ?_
            refine lv_iadd hx hb dX5_ages_67 ?_
            refine lv_tope (y := nI (7 + 2 * (o_age (σ.2 0) c9 k).2)) (by simp only [nI, Int32.ofNat_add, Int32.ofNat_mul] <;> rfl) ?_
            refine lv_iload hx hb dX5_ages_68 (lv_at hl 1 rfl) ?_
            refine mo_callv (va_runV (As := [.int (nI c9), .int (nI (7 + 2 * (o_age (σ.2 0) c9 k).2)), .int (((o_age (σ.2 0) c9 k).1) (23 + 19 * c9 + (7 + 2 * k)))]) (rest := []) ⟨hx, hb, hml, hown, hts⟩ (met_X5_becomes l G hM c9 (7 + 2 * (o_age (σ.2 0) c9 k).2) (((o_age (σ.2 0) c9 k).1) (23 + 19 * c9 + (7 + 2 * k))) (show 23 + 19 * c9 + (7 + 2 * (o_age (σ.2 0) c9 k).2) < 137 by omega)) (cwV 3 hts (lw_V q2744 q2746 qs60 q106 q2747) rfl rfl rfl (by decide +kernel) ⟨Nat.le_of_ble_eq_true rfl, Nat.le_of_ble_eq_true rfl⟩) (hv_preV hw pk_X5 hM.1) rfl rfl hl.1 rfl (lv_room (Nat.le_of_ble_eq_true rfl)) dX5_ages_70 ⟨Nat.le_of_ble_eq_true rfl, Nat.le_of_ble_eq_true rfl⟩) hw hF (fun hh H locs hM hF hw => ?_)
            rw [mo_na_sa] at hM
            refine lv_aload_n hx hb dX5_ages_73 rfl (lv_at hl 4 rfl) ?_
            refine lv_iload_n hx hb dX5_ages_74 rfl (lv_at hl 5 rfl) ?_
            refine lv_bipush (v := 7) hx hb dX5_ages_75 (by decide) ?_
            refine lv_iconst (v := 2) hx hb dX5_ages_77 (by decide) ?_
            refine lv_iload_n hx hb dX5_ages_78 rfl (lv_at hl 3 rfl) ?_
            refine lv_imul hx hb dX5_ages_79 ?_
            refine lv_tope (y := nI (2 * (o_age (σ.2 0) c9 k).2)) (by simp only [nI, Int32.ofNat_add, Int32.ofNat_mul] <;> rfl) ?_
            refine lv_iadd hx hb dX5_ages_80 ?_
            refine lv_tope (y := nI (7 + 2 * (o_age (σ.2 0) c9 k).2)) (by simp only [nI, Int32.ofNat_add, Int32.ofNat_mul] <;> rfl) ?_
            refine lv_iconst (v := 1) hx hb dX5_ages_81 (by decide) ?_
            refine lv_iadd hx hb dX5_ages_82 ?_
            refine lv_tope (y := nI (7 + 2 * (o_age (σ.2 0) c9 k).2 + 1)) (by simp only [nI, Int32.ofNat_add, Int32.ofNat_mul] <;> rfl) ?_
            refine lv_iload hx hb dX5_ages_83 (lv_at hl 0 rfl) ?_
            refine mo_callv (va_runV (As := [.int (nI c9), .int (nI (7 + 2 * (o_age (σ.2 0) c9 k).2 + 1)), .int ((((o_age (σ.2 0) c9 k).1) (23 + 19 * c9 + (7 + 2 * k + 1))) + 1)]) (rest := []) ⟨hx, hb, hml, hown, hts⟩ (met_X5_becomes l G hM c9 (7 + 2 * (o_age (σ.2 0) c9 k).2 + 1) ((((o_age (σ.2 0) c9 k).1) (23 + 19 * c9 + (7 + 2 * k + 1))) + 1) (show 23 + 19 * c9 + (7 + 2 * (o_age (σ.2 0) c9 k).2 + 1) < 137 by omega)) (cwV 3 hts (lw_V q2744 q2746 qs60 q106 q2747) rfl rfl rfl (by decide +kernel) ⟨Nat.le_of_ble_eq_true rfl, Nat.le_of_ble_eq_true rfl⟩) (hv_preV hw pk_X5 hM.1) rfl rfl hl.1 rfl (lv_room (Nat.le_of_ble_eq_true rfl)) dX5_ages_85 ⟨Nat.le_of_ble_eq_true rfl, Nat.le_of_ble_eq_true rfl⟩) hw hF (fun hh H locs hM hF hw => ?_)
            rw [mo_na_sa] at hM
            refine lv_iinc (v := nI ((o_age (σ.2 0) c9 k).2 + 1)) (lv' := [(3, .int (nI ((o_age (σ.2 0) c9 k).2 + 1))), (6, .int ((((o_age (σ.2 0) c9 k).1) (23 + 19 * c9 + (7 + 2 * k + 1))) + 1)), (5, .int (((o_age (σ.2 0) c9 k).1) (23 + 19 * c9 + (7 + 2 * k)))), (4, .int (nI k)), (0, .ref o), (1, .int (nI c9)), (2, .int f9)]) hx hb dX5_ages_88 hl (k := 3) rfl (by simp only [nI, Int32.ofNat_add] <;> rfl) (by decide) rfl (fun ls hl => ?_)
            refine lv_iinc (v := nI (k + 1)) (lv' := [(4, .int (nI (k + 1))), (3, .int (nI ((o_age (σ.2 0) c9 k).2 + 1))), (6, .int ((((o_age (σ.2 0) c9 k).1) (23 + 19 * c9 + (7 + 2 * k + 1))) + 1)), (5, .int (((o_age (σ.2 0) c9 k).1) (23 + 19 * c9 + (7 + 2 * k)))), (0, .ref o), (1, .int (nI c9)), (2, .int f9)]) hx hb dX5_ages_91 hl (k := 3) rfl (by simp only [nI, Int32.ofNat_add] <;> rfl) (by decide) rfl (fun ls hl => ?_)
            refine lv_goto (tgt := 5) hx hb dX5_ages_94 (by decide) ?_
            have hM : isMod G hh o ma (mo_na σ (o_age (σ.2 0) c9 (k + 1)).1) := by rw [e9]; exact hM
            have e8 : (o_age (σ.2 0) c9 k).2 + 1 = (o_age (σ.2 0) c9 (k + 1)).2 := by rw [e9]
            rw [e8] at hl
            exact ih5 (k + 1) _ _ _ _ (by omega) (by omega) hM hF hw (lv_sub hl [0, 1, 4, 5, 6] rfl)
  exact LP5 _ 0 _ _ _ _ (Nat.lt_succ_self _) (by omega) hM hF hw (lv_sub hl [0, 1, 2, 3, 4] rfl)
