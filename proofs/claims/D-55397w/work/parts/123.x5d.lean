set_option maxRecDepth 100000
set_option maxHeartbeats 400000 in
theorem met_X5_remembers (l : Launch) (G : hG) {h : hp} {o : Nat} {ma : Nat → Nat} {σ : MS} (hM : isMod G h o ma σ)  (h5 : σ.1 5 = nI (o_n (σ.1 5)) ∧ o_n (σ.1 5) ≤ 8) : mo_Mv l G yX5_remembers (ws_ yX5_remembers cX5_remembers 2 (Option.none : Option Jvm.ClassFile.FieldType)) ({ frames := 1, cells := 0, slots := 0, locals := 24 } : Room) [.ref o] h o ma (m_rem σ) := by
  refine hv_bv (own := RX5) (by decide +kernel) rfl (Nat.le_of_ble_eq_true rfl) (fun p e s m a below meth c ls Q hx hb hml hown hts hnm hret hw hl => ?_)
  have hl : lv_has ls 2 [(0, .ref o)] := hl
  have hF : mo_fr o ma h h := mo_fr.rf
  refine lv_aload_n hx hb dX5_remembers_0 rfl (lv_at hl 0 rfl) ?_
  refine mo_get hx hb hts hown hw hM 5 (by decide) q2559 rfl (v := .int (σ.1 5)) rfl dX5_remembers_1 ?_
  refine lv_bipush (v := 8) hx hb dX5_remembers_4 (by decide) ?_
  refine lv_icmp_ne (tgt := 50) hx hb dX5_remembers_6 (by decide) (fun c6 => ?_) (fun c6 => ?_)
  · skip
    have hn8 : o_n (σ.1 5) ≠ 8 := fun z => c6 (by rw [h5.1, z]; rfl)
    have hn9 := h5.2
    refine lv_aload_n hx hb dX5_remembers_50 rfl (lv_at hl 0 rfl) ?_
    refine mo_get hx hb hts hown hw hM 1 (by decide) q2555 rfl (v := .ref (ma 1)) rfl dX5_remembers_51 ?_
    refine lv_iconst (v := 0) hx hb dX5_remembers_54 (by decide) ?_
    refine lv_aload_n hx hb dX5_remembers_55 rfl (lv_at hl 0 rfl) ?_
    refine mo_get hx hb hts hown hw hM 3 (by decide) q2557 rfl (v := .ref (ma 3)) rfl dX5_remembers_56 ?_
    refine lv_aload_n hx hb dX5_remembers_59 rfl (lv_at hl 0 rfl) ?_
    refine mo_get hx hb hts hown hw hM 5 (by decide) q2559 rfl (v := .int (σ.1 5)) rfl dX5_remembers_60 ?_
    refine lv_tope (y := nI (o_n (σ.1 5))) (h5.1) ?_
    refine lv_sipush (v := 137) hx hb dX5_remembers_63 (by decide) ?_
    refine lv_imul hx hb dX5_remembers_66 ?_
    refine lv_tope (y := nI (o_n (σ.1 5) * 137)) (by simp only [nI, Int32.ofNat_add, Int32.ofNat_mul] <;> rfl) ?_
    refine mo_callv (va_runS (As := [.ref (ma 1), .int 0, .ref (ma 3), .int (nI (o_n (σ.1 5) * 137))]) (rest := []) ⟨hx, hb, hml, hown, hts⟩ (met_X5_copies l G hM 1 3 0 (o_n (σ.1 5) * 137) rfl rfl (by decide) (show 0 + 137 ≤ 137 by omega) (show (o_n (σ.1 5) * 137) + 137 ≤ 1096 by omega) (by decide) (by decide)) (va_cwS 4 hts (lw_S q2639 q2640 q106 q2641) rfl rfl rfl (by decide +kernel) ⟨Nat.le_of_ble_eq_true rfl, Nat.le_of_ble_eq_true rfl⟩) (hv_preS hw) rfl rfl hl.1 rfl (lv_room (Nat.le_of_ble_eq_true rfl)) dX5_remembers_67 ⟨Nat.le_of_ble_eq_true rfl, Nat.le_of_ble_eq_true rfl⟩) hw hF (fun hh H locs hM hF hw => ?_)
    refine lv_aload_n hx hb dX5_remembers_70 rfl (lv_at hl 0 rfl) ?_
    refine lv_dup hx hb dX5_remembers_71 rfl ?_
    refine mo_get hx hb hts hown hw hM 5 (by decide) q2559 rfl (v := .int (σ.1 5)) rfl dX5_remembers_72 ?_
    refine lv_tope (y := nI (o_n (σ.1 5))) (h5.1) ?_
    refine lv_iconst (v := 1) hx hb dX5_remembers_75 (by decide) ?_
    refine lv_iadd hx hb dX5_remembers_76 ?_
    refine lv_tope (y := nI (o_n (σ.1 5) + 1)) (by simp only [nI, Int32.ofNat_add, Int32.ofNat_mul] <;> rfl) ?_
    refine mo_put hx hb hts hown hw hM hF 5 (by decide) rfl q2559 rfl rfl rfl rfl dX5_remembers_77 (fun hh H locs hM hF hw => ?_)
    exact hret hw ⟨by unfold m_rem; rw [if_neg c6]; exact hM, hF⟩ (Nat.le_of_ble_eq_true rfl) (Nat.le_of_ble_eq_true rfl) dX5_remembers_80
  · skip
    refine lv_iconst (v := 0) hx hb dX5_remembers_9 (by decide) ?_
    refine lv_istore_n (lv' := [(1, .int 0), (0, .ref o)]) hx hb dX5_remembers_10 rfl hl (by decide) rfl (fun ls hl => ?_)
    have hM : isMod G h o ma (m_shk σ 0) := by rw [m_shk_0]; exact hM
    have LP11 : ∀ (n : Nat) (k : Nat) (hh : hp) (H : Heap) (locs : List Loc) (ls : Array Slot), 959 - k < n → k ≤ 959 → isMod G hh o ma (m_shk σ k) → mo_fr o ma h hh → hv_W G s hh H locs → lv_has ls 2 [(1, .int (nI k)), (0, .ref o)] → W p l e ({ frames := 1, cells := 0, slots := 0, locals := 24 } : Room) s m a below meth c H locs 0 0 Q (F0 m 11 ls []) := by
      intro n
      induction n with
      | zero => exact fun k hh H locs ls hmu => absurd hmu (Nat.not_lt_zero _)
      | succ n ih =>
        intro k hh H locs ls hmu hkk hM hF hw hl
        refine lv_iload_n hx hb dX5_remembers_11 rfl (lv_at hl 0 rfl) ?_
        refine lv_sipush (v := 959) hx hb dX5_remembers_12 (by decide) ?_
        refine lv_icmp_ge (tgt := 40) hx hb dX5_remembers_15 (by decide) (fun c15 => ?_) (fun c15 => ?_)
        · skip
          have hxk : 959 ≤ k := cmp_le c15 rfl rfl (by omega) (by omega)
          obtain rfl : k = 959 := by omega
          refine lv_aload_n hx hb dX5_remembers_40 rfl (lv_at hl 1 rfl) ?_
          refine lv_dup hx hb dX5_remembers_41 rfl ?_
          refine mo_get hx hb hts hown hw hM 5 (by decide) q2559 rfl (v := .int ((m_shk σ 959).1 5)) rfl dX5_remembers_42 ?_
          refine lv_tope (y := 8) (c6) ?_
          refine lv_iconst (v := 1) hx hb dX5_remembers_45 (by decide) ?_
          refine lv_isub hx hb dX5_remembers_46 ?_
          refine lv_tope (y := nI 7) (by decide) ?_
          refine mo_put hx hb hts hown hw hM hF 5 (by decide) rfl q2559 rfl rfl rfl rfl dX5_remembers_47 (fun hh H locs hM hF hw => ?_)
          refine lv_aload_n hx hb dX5_remembers_50 rfl (lv_at hl 1 rfl) ?_
          refine mo_get hx hb hts hown hw hM 1 (by decide) q2555 rfl (v := .ref (ma 1)) rfl dX5_remembers_51 ?_
          refine lv_iconst (v := 0) hx hb dX5_remembers_54 (by decide) ?_
          refine lv_aload_n hx hb dX5_remembers_55 rfl (lv_at hl 1 rfl) ?_
          refine mo_get hx hb hts hown hw hM 3 (by decide) q2557 rfl (v := .ref (ma 3)) rfl dX5_remembers_56 ?_
          refine lv_aload_n hx hb dX5_remembers_59 rfl (lv_at hl 1 rfl) ?_
          refine mo_get hx hb hts hown hw hM 5 (by decide) q2559 rfl (v := .int (nI 7)) rfl dX5_remembers_60 ?_
          refine lv_sipush (v := 137) hx hb dX5_remembers_63 (by decide) ?_
          refine lv_imul hx hb dX5_remembers_66 ?_
          refine lv_tope (y := nI (7 * 137)) (by simp only [nI, Int32.ofNat_add, Int32.ofNat_mul] <;> rfl) ?_
          refine mo_callv (va_runS (As := [.ref (ma 1), .int 0, .ref (ma 3), .int (nI (7 * 137))]) (rest := []) ⟨hx, hb, hml, hown, hts⟩ (met_X5_copies l G hM 1 3 0 (7 * 137) rfl rfl (by decide) (show 0 + 137 ≤ 137 by omega) (show (7 * 137) + 137 ≤ 1096 by omega) (by decide) (by decide)) (va_cwS 4 hts (lw_S q2639 q2640 q106 q2641) rfl rfl rfl (by decide +kernel) ⟨Nat.le_of_ble_eq_true rfl, Nat.le_of_ble_eq_true rfl⟩) (hv_preS hw) rfl rfl hl.1 rfl (lv_room (Nat.le_of_ble_eq_true rfl)) dX5_remembers_67 ⟨Nat.le_of_ble_eq_true rfl, Nat.le_of_ble_eq_true rfl⟩) hw hF (fun hh H locs hM hF hw => ?_)
          refine lv_aload_n hx hb dX5_remembers_70 rfl (lv_at hl 1 rfl) ?_
          refine lv_dup hx hb dX5_remembers_71 rfl ?_
          refine mo_get hx hb hts hown hw hM 5 (by decide) q2559 rfl (v := .int (nI 7)) rfl dX5_remembers_72 ?_
          refine lv_iconst (v := 1) hx hb dX5_remembers_75 (by decide) ?_
          refine lv_iadd hx hb dX5_remembers_76 ?_
          refine lv_tope (y := nI (7 + 1)) (by simp only [nI, Int32.ofNat_add, Int32.ofNat_mul] <;> rfl) ?_
          refine mo_put hx hb hts hown hw hM hF 5 (by decide) rfl q2559 rfl rfl rfl rfl dX5_remembers_77 (fun hh H locs hM hF hw => ?_)
          exact hret hw ⟨by unfold m_rem; rw [if_pos c6]; exact hM, hF⟩ (Nat.le_of_ble_eq_true rfl) (Nat.le_of_ble_eq_true rfl) dX5_remembers_80
        · skip
          have hxk : k < 959 := cmp_nle c15 rfl rfl (by omega) (by omega)
          refine lv_aload_n hx hb dX5_remembers_18 rfl (lv_at hl 1 rfl) ?_
          refine mo_get hx hb hts hown hw hM 3 (by decide) q2557 rfl (v := .ref (ma 3)) rfl dX5_remembers_19 ?_
          refine lv_iload_n hx hb dX5_remembers_22 rfl (lv_at hl 0 rfl) ?_
          refine lv_aload_n hx hb dX5_remembers_23 rfl (lv_at hl 1 rfl) ?_
          refine mo_get hx hb hts hown hw hM 3 (by decide) q2557 rfl (v := .ref (ma 3)) rfl dX5_remembers_24 ?_
          refine lv_iload_n hx hb dX5_remembers_27 rfl (lv_at hl 0 rfl) ?_
          refine lv_sipush (v := 137) hx hb dX5_remembers_28 (by decide) ?_
          refine lv_iadd hx hb dX5_remembers_31 ?_
          refine lv_tope (y := nI (k + 137)) (by simp only [nI, Int32.ofNat_add, Int32.ofNat_mul] <;> rfl) ?_
          refine mo_ald hx hb hw hM 3 rfl (j := k + 137) rfl (show k + 137 < 1096 by omega) dX5_remembers_32 ?_
          refine lv_tope (y := σ.2 3 (137 + k)) m_shk_src ?_
          refine mo_ast hx hb hw hM hF 3 rfl (j := k) rfl (show k < 1096 by omega) dX5_remembers_33 (fun hh H locs hM hF hw => ?_)
          rw [m_shk_s] at hM
          refine lv_iinc (v := nI (k + 1)) (lv' := [(1, .int (nI (k + 1))), (0, .ref o)]) hx hb dX5_remembers_34 hl (k := 0) rfl (by simp only [nI, Int32.ofNat_add] <;> rfl) (by decide) rfl (fun ls hl => ?_)
          refine lv_goto (tgt := 11) hx hb dX5_remembers_37 (by decide) ?_
          exact ih (k + 1) _ _ _ _ (by omega) (by omega) hM hF hw (lv_sub hl [0, 1] rfl)
    exact LP11 _ 0 _ _ _ _ (Nat.lt_succ_self _) (by omega) hM hF hw (lv_sub hl [0, 1] rfl)
set_option maxHeartbeats 400000 in
theorem met_X5_ends_ref (l : Launch) (G : hG) {h : hp} {o : Nat} {ma : Nat → Nat} {σ : MS} (hM : isMod G h o ma σ) (x : Int32) (h16 : ¬ σ.1 16 = 0) : mo_Mi l G yX5_ends (ws_ yX5_ends cX5_ends 2 (Option.some Jvm.ClassFile.FieldType.int)) ({ frames := 1, cells := 0, slots := 0, locals := 24 } : Room) [.ref o, .int x] h o ma (0) (m_endr σ) := by
  refine hv_bi .int (Or.inl rfl) (own := RX5) (by decide +kernel) rfl (Nat.le_of_ble_eq_true rfl) (fun p e s m a below meth c ls Q hx hb hml hown hts hnm hret hw hl => ?_)
  have hl : lv_has ls 2 [(0, .ref o), (1, .int x)] := hl
  have hF : mo_fr o ma h h := mo_fr.rf
  refine lv_aload_n hx hb dX5_ends_0 rfl (lv_at hl 0 rfl) ?_
  refine mo_get hx hb hts hown hw hM 16 (by decide) q2570 rfl (v := .int (σ.1 16)) rfl dX5_ends_1 ?_
  refine lv_if_eq (tgt := 48) hx hb dX5_ends_4 (by decide) (fun c4 => absurd c4 (h16)) (fun c4 => ?_)
  refine lv_aload_n hx hb dX5_ends_7 rfl (lv_at hl 0 rfl) ?_
  refine lv_aload_n hx hb dX5_ends_8 rfl (lv_at hl 0 rfl) ?_
  refine mo_get hx hb hts hown hw hM 16 (by decide) q2570 rfl (v := .int (σ.1 16)) rfl dX5_ends_9 ?_
  refine mo_put hx hb hts hown hw hM hF 6 (by decide) rfl q2560 rfl rfl rfl rfl dX5_ends_12 (fun hh H locs hM hF hw => ?_)
  refine lv_aload_n hx hb dX5_ends_15 rfl (lv_at hl 0 rfl) ?_
  refine lv_aload_n hx hb dX5_ends_16 rfl (lv_at hl 0 rfl) ?_
  refine mo_get hx hb hts hown hw hM 17 (by decide) q2571 rfl (v := .int (σ.1 17)) rfl dX5_ends_17 ?_
  refine mo_put hx hb hts hown hw hM hF 7 (by decide) rfl q2561 rfl rfl rfl rfl dX5_ends_20 (fun hh H locs hM hF hw => ?_)
  refine lv_aload_n hx hb dX5_ends_23 rfl (lv_at hl 0 rfl) ?_
  refine lv_iconst (v := 0) hx hb dX5_ends_24 (by decide) ?_
  refine mo_put hx hb hts hown hw hM hF 8 (by decide) rfl q2562 rfl rfl rfl rfl dX5_ends_25 (fun hh H locs hM hF hw => ?_)
  refine lv_aload_n hx hb dX5_ends_28 rfl (lv_at hl 0 rfl) ?_
  refine lv_iconst (v := 1) hx hb dX5_ends_29 (by decide) ?_
  refine mo_put hx hb hts hown hw hM hF 15 (by decide) rfl q2569 rfl rfl rfl rfl dX5_ends_30 (fun hh H locs hM hF hw => ?_)
  refine lv_aload_n hx hb dX5_ends_33 rfl (lv_at hl 0 rfl) ?_
  refine mo_get hx hb hts hown hw hM 1 (by decide) q2555 rfl (v := .ref (ma 1)) rfl dX5_ends_34 ?_
  refine lv_iconst (v := 0) hx hb dX5_ends_37 (by decide) ?_
  refine lv_aload_n hx hb dX5_ends_38 rfl (lv_at hl 0 rfl) ?_
  refine mo_get hx hb hts hown hw hM 0 (by decide) q2554 rfl (v := .ref (ma 0)) rfl dX5_ends_39 ?_
  refine lv_iconst (v := 0) hx hb dX5_ends_42 (by decide) ?_
  refine mo_callv (va_runS (As := [.ref (ma 1), .int 0, .ref (ma 0), .int 0]) (rest := []) ⟨hx, hb, hml, hown, hts⟩ (met_X5_copies l G hM 1 0 0 0 rfl rfl (by decide) (show 0 + 137 ≤ 137 by omega) (show 0 + 137 ≤ 137 by omega) (by decide) (by decide)) (va_cwS 4 hts (lw_S q2639 q2640 q106 q2641) rfl rfl rfl (by decide +kernel) ⟨Nat.le_of_ble_eq_true rfl, Nat.le_of_ble_eq_true rfl⟩) (hv_preS hw) rfl rfl hl.1 rfl (lv_room (Nat.le_of_ble_eq_true rfl)) dX5_ends_43 ⟨Nat.le_of_ble_eq_true rfl, Nat.le_of_ble_eq_true rfl⟩) hw hF (fun hh H locs hM hF hw => ?_)
  refine lv_iconst (v := 0) hx hb dX5_ends_46 (by decide) ?_
  exact hret rfl hw ⟨rfl, hM, hF⟩ (Nat.le_of_ble_eq_true rfl) (Nat.le_of_ble_eq_true rfl) dX5_ends_47
set_option maxHeartbeats 400000 in
theorem met_X5_ends_ok (l : Launch) (G : hG) {h : hp} {o : Nat} {ma : Nat → Nat} {σ : MS} (hM : isMod G h o ma σ) (x : Int32) (h16 : σ.1 16 = 0) (h5 : σ.1 5 = nI (o_n (σ.1 5)) ∧ o_n (σ.1 5) ≤ 8) : mo_Mi l G yX5_ends (ws_ yX5_ends cX5_ends 2 (Option.some Jvm.ClassFile.FieldType.int)) ({ frames := 2, cells := 0, slots := 0, locals := 45 } : Room) [.ref o, .int x] h o ma (x) (m_rem σ) := by
  refine hv_bi .int (Or.inl rfl) (own := RX5) (by decide +kernel) rfl (Nat.le_of_ble_eq_true rfl) (fun p e s m a below meth c ls Q hx hb hml hown hts hnm hret hw hl => ?_)
  have hl : lv_has ls 2 [(0, .ref o), (1, .int x)] := hl
  have hF : mo_fr o ma h h := mo_fr.rf
  refine lv_aload_n hx hb dX5_ends_0 rfl (lv_at hl 0 rfl) ?_
  refine mo_get hx hb hts hown hw hM 16 (by decide) q2570 rfl (v := .int (σ.1 16)) rfl dX5_ends_1 ?_
  refine lv_if_eq (tgt := 48) hx hb dX5_ends_4 (by decide) (fun c4 => ?_) (fun c4 => absurd (h16) c4)
  refine lv_aload_n hx hb dX5_ends_48 rfl (lv_at hl 0 rfl) ?_
  refine mo_callv (va_runV (As := []) (rest := []) ⟨hx, hb, hml, hown, hts⟩ (met_X5_remembers l G hM  (show σ.1 5 = nI (o_n (σ.1 5)) ∧ o_n (σ.1 5) ≤ 8 by omega)) (cwV 0 hts (lw_V q2681 q2683 qs51 q106 q2684) rfl rfl rfl (by decide +kernel) ⟨Nat.le_of_ble_eq_true rfl, Nat.le_of_ble_eq_true rfl⟩) (hv_preV hw pk_X5 hM.1) rfl rfl hl.1 rfl (lv_room (Nat.le_of_ble_eq_true rfl)) dX5_ends_49 ⟨Nat.le_of_ble_eq_true rfl, Nat.le_of_ble_eq_true rfl⟩) hw hF (fun hh H locs hM hF hw => ?_)
  refine lv_iload_n hx hb dX5_ends_52 rfl (lv_at hl 1 rfl) ?_
  exact hret rfl hw ⟨rfl, hM, hF⟩ (Nat.le_of_ble_eq_true rfl) (Nat.le_of_ble_eq_true rfl) dX5_ends_53
set_option maxHeartbeats 400000 in
theorem met_X5_goes (l : Launch) (G : hG) {h : hp} {o : Nat} {ma : Nat → Nat} {σ : MS} (hM : isMod G h o ma σ) (A : Prop) [Decidable A] (by9 : Int32) (B : Prop) [Decidable B] (ot : Int32) (hy1 : ¬ by9 = 0) (hy2 : ¬ B → ¬ ot = 0) : mo_Mi l G yX5_goes (ws_ yX5_goes cX5_goes 5 (Option.some Jvm.ClassFile.FieldType.boolean)) ({ frames := 0, cells := 0, slots := 0, locals := 0 } : Room) [.ref o, .int (b01 A), .int by9, .int (b01 B), .int ot] h o ma (b01 (A ∧ B)) (mo_st σ 15 (m_gv (A) by9 (B) ot)) := by
  refine hv_bi .boolean (Or.inr (Or.inl rfl)) (own := RX5) (by decide +kernel) rfl (Nat.le_of_ble_eq_true rfl) (fun p e s m a below meth c ls Q hx hb hml hown hts hnm hret hw hl => ?_)
  have hl : lv_has ls 5 [(0, .ref o), (1, .int (b01 A)), (2, .int by9), (3, .int (b01 B)), (4, .int ot)] := hl
  have hF : mo_fr o ma h h := mo_fr.rf
  refine lv_aload_n hx hb dX5_goes_0 rfl (lv_at hl 0 rfl) ?_
  refine lv_iload_n hx hb dX5_goes_1 rfl (lv_at hl 1 rfl) ?_
  refine lv_if_ne (tgt := 9) hx hb dX5_goes_2 (by decide) (fun c2 => ?_) (fun c2 => ?_)
  · skip
    have c2 : A := b01_n.mp c2
    refine lv_iload_n hx hb dX5_goes_9 rfl (lv_at hl 3 rfl) ?_
    refine lv_if_ne (tgt := 18) hx hb dX5_goes_10 (by decide) (fun c10 => ?_) (fun c10 => ?_)
    · skip
      have c10 : B := b01_n.mp c10
      refine lv_iconst (v := 0) hx hb dX5_goes_18 (by decide) ?_
      refine mo_put hx hb hts hown hw hM hF 15 (by decide) rfl q2569 rfl rfl rfl rfl dX5_goes_19 (fun hh H locs hM hF hw => ?_)
      refine lv_aload_n hx hb dX5_goes_22 rfl (lv_at hl 0 rfl) ?_
      refine mo_get hx hb hts hown hw hM 15 (by decide) q2569 rfl (v := .int 0) rfl dX5_goes_23 ?_
      refine lv_mat1 (P := 0 = 0) (j := 34) (fun k1 k2 => lv_if_ne (tgt := 33) hx hb dX5_goes_26 (by decide) (fun c => lv_iconst (v := 0) hx hb dX5_goes_33 (by decide) (k2 c)) (fun c => lv_iconst (v := 1) hx hb dX5_goes_29 (by decide) (lv_goto (tgt := 34) hx hb dX5_goes_30 (by decide) (k1 c)))) ?_
      exact hret (b01_z _) hw ⟨(b01_t rfl).trans (b01_t ⟨c2, c10⟩).symm, by rw [m_gv_t ⟨c2, c10⟩]; exact hM, hF⟩ (Nat.le_of_ble_eq_true rfl) (Nat.le_of_ble_eq_true rfl) dX5_goes_34
    · skip
      have c10 : ¬ (B) := b01_0.mp c10
      refine lv_iload hx hb dX5_goes_13 (lv_at hl 4 rfl) ?_
      refine lv_goto (tgt := 19) hx hb dX5_goes_15 (by decide) ?_
      refine mo_put hx hb hts hown hw hM hF 15 (by decide) rfl q2569 rfl rfl rfl rfl dX5_goes_19 (fun hh H locs hM hF hw => ?_)
      refine lv_aload_n hx hb dX5_goes_22 rfl (lv_at hl 0 rfl) ?_
      refine mo_get hx hb hts hown hw hM 15 (by decide) q2569 rfl (v := .int ot) rfl dX5_goes_23 ?_
      refine lv_mat1 (P := ot = 0) (j := 34) (fun k1 k2 => lv_if_ne (tgt := 33) hx hb dX5_goes_26 (by decide) (fun c => lv_iconst (v := 0) hx hb dX5_goes_33 (by decide) (k2 c)) (fun c => lv_iconst (v := 1) hx hb dX5_goes_29 (by decide) (lv_goto (tgt := 34) hx hb dX5_goes_30 (by decide) (k1 c)))) ?_
      exact hret (b01_z _) hw ⟨(b01_f (hy2 c10)).trans (b01_f (fun z => c10 z.2)).symm, by unfold m_gv; rw [if_pos c2, if_neg c10]; exact hM, hF⟩ (Nat.le_of_ble_eq_true rfl) (Nat.le_of_ble_eq_true rfl) dX5_goes_34
  · skip
    have c2 : ¬ (A) := b01_0.mp c2
    refine lv_iload_n hx hb dX5_goes_5 rfl (lv_at hl 2 rfl) ?_
    refine lv_goto (tgt := 19) hx hb dX5_goes_6 (by decide) ?_
    refine mo_put hx hb hts hown hw hM hF 15 (by decide) rfl q2569 rfl rfl rfl rfl dX5_goes_19 (fun hh H locs hM hF hw => ?_)
    refine lv_aload_n hx hb dX5_goes_22 rfl (lv_at hl 0 rfl) ?_
    refine mo_get hx hb hts hown hw hM 15 (by decide) q2569 rfl (v := .int by9) rfl dX5_goes_23 ?_
    refine lv_mat1 (P := by9 = 0) (j := 34) (fun k1 k2 => lv_if_ne (tgt := 33) hx hb dX5_goes_26 (by decide) (fun c => lv_iconst (v := 0) hx hb dX5_goes_33 (by decide) (k2 c)) (fun c => lv_iconst (v := 1) hx hb dX5_goes_29 (by decide) (lv_goto (tgt := 34) hx hb dX5_goes_30 (by decide) (k1 c)))) ?_
    exact hret (b01_z _) hw ⟨(b01_f hy1).trans (b01_f (fun z => c2 z.1)).symm, by unfold m_gv; rw [if_neg c2]; exact hM, hF⟩ (Nat.le_of_ble_eq_true rfl) (Nat.le_of_ble_eq_true rfl) dX5_goes_34
set_option maxHeartbeats 400000 in
theorem met_X5_bracketOf (l : Launch) (G : hG) {h : hp} {o : Nat} {ma : Nat → Nat} {σ : MS} (hM : isMod G h o ma σ) (b : Int32) (w9 : Int32) (hok : okI (σ.2 0)) : mo_Mi l G yX5_bracketOf (ws_ yX5_bracketOf cX5_bracketOf 3 (Option.some Jvm.ClassFile.FieldType.int)) ({ frames := 2, cells := 0, slots := 0, locals := 43 } : Room) [.ref o, .int b, .int w9] h o ma (if (0 ≤ b ∧ b ≤ σ.2 0 1 - 1) ∧ (0 ≤ w9 ∧ w9 ≤ 1) then σ.2 0 (13 + 2 * o_n b + o_n w9) else 0) (mo_st σ 15 (m_gv ((0 ≤ b ∧ b ≤ σ.2 0 1 - 1)) 1 ((0 ≤ w9 ∧ w9 ≤ 1)) 2)) := by
  refine hv_bi .int (Or.inl rfl) (own := RX5) (by decide +kernel) rfl (Nat.le_of_ble_eq_true rfl) (fun p e s m a below meth c ls Q hx hb hml hown hts hnm hret hw hl => ?_)
  have hl : lv_has ls 3 [(0, .ref o), (1, .int b), (2, .int w9)] := hl
  have hF : mo_fr o ma h h := mo_fr.rf
  have hmx : o_many (σ.2 0) ≤ 5 := hok.2.2.1
  have hpx : o_people (σ.2 0) ≤ 6 := hok.2.2.2.2.1
  refine lv_aload_n hx hb dX5_bracketOf_0 rfl (lv_at hl 0 rfl) ?_
  refine lv_aload_n hx hb dX5_bracketOf_1 rfl (lv_at hl 0 rfl) ?_
  refine lv_iload_n hx hb dX5_bracketOf_2 rfl (lv_at hl 1 rfl) ?_
  refine hv_callir (va_runV (As := [.int b]) (rest := [.ref o]) ⟨hx, hb, hml, hown, hts⟩ (met_X5_isBracket l G hM b ) (cwV 1 hts (lw_V q2693 q2695 qs53 q106 q2696) rfl rfl rfl (by decide +kernel) ⟨Nat.le_of_ble_eq_true rfl, Nat.le_of_ble_eq_true rfl⟩) (hv_preV hw pk_X5 hM.1) rfl rfl hl.1 rfl (lv_room (Nat.le_of_ble_eq_true rfl)) dX5_bracketOf_3 ⟨Nat.le_of_ble_eq_true rfl, Nat.le_of_ble_eq_true rfl⟩) hw (fun H locs hw => ?_)
  refine lv_iconst (v := 1) hx hb dX5_bracketOf_6 (by decide) ?_
  refine lv_iload_n hx hb dX5_bracketOf_7 rfl (lv_at hl 2 rfl) ?_
  refine lv_iconst (v := 0) hx hb dX5_bracketOf_8 (by decide) ?_
  refine lv_iconst (v := 1) hx hb dX5_bracketOf_9 (by decide) ?_
  refine hv_callir (va_runS (As := [.int w9, .int 0, .int 1]) (rest := [.int 1, .int (b01 (0 ≤ b ∧ b ≤ σ.2 0 1 - 1)), .ref o]) ⟨hx, hb, hml, hown, hts⟩ (met_X5_isIn l G w9 0 1 ) (va_cwS 3 hts (lw_S q2666 q2667 q106 q2668) rfl rfl rfl (by decide +kernel) ⟨Nat.le_of_ble_eq_true rfl, Nat.le_of_ble_eq_true rfl⟩) (hv_preS hw) rfl rfl hl.1 rfl (lv_room (Nat.le_of_ble_eq_true rfl)) dX5_bracketOf_10 ⟨Nat.le_of_ble_eq_true rfl, Nat.le_of_ble_eq_true rfl⟩) hw (fun H locs hw => ?_)
  refine lv_iconst (v := 2) hx hb dX5_bracketOf_13 (by decide) ?_
  refine mo_calli (va_runV (As := [.int (b01 (0 ≤ b ∧ b ≤ σ.2 0 1 - 1)), .int 1, .int (b01 (0 ≤ w9 ∧ w9 ≤ 1)), .int 2]) (rest := []) ⟨hx, hb, hml, hown, hts⟩ (met_X5_goes l G hM (0 ≤ b ∧ b ≤ σ.2 0 1 - 1) 1 (0 ≤ w9 ∧ w9 ≤ 1) 2 (by decide) (fun _ => by decide)) (cwV 4 hts (lw_V q2825 q2827 qs75 q106 q2828) rfl rfl rfl (by decide +kernel) ⟨Nat.le_of_ble_eq_true rfl, Nat.le_of_ble_eq_true rfl⟩) (hv_preV hw pk_X5 hM.1) rfl rfl hl.1 rfl (lv_room (Nat.le_of_ble_eq_true rfl)) dX5_bracketOf_14 ⟨Nat.le_of_ble_eq_true rfl, Nat.le_of_ble_eq_true rfl⟩) hw hF (fun hh H locs hM hF hw => ?_)
  refine lv_if_eq (tgt := 36) hx hb dX5_bracketOf_17 (by decide) (fun c17 => ?_) (fun c17 => ?_)
  · skip
    have c17 : ¬ ((0 ≤ b ∧ b ≤ σ.2 0 1 - 1) ∧ (0 ≤ w9 ∧ w9 ≤ 1)) := b01_0.mp c17
    refine lv_iconst (v := 0) hx hb dX5_bracketOf_36 (by decide) ?_
    exact hret rfl hw ⟨(if_neg c17).symm, hM, hF⟩ (Nat.le_of_ble_eq_true rfl) (Nat.le_of_ble_eq_true rfl) dX5_bracketOf_37
  · skip
    have c17 : (0 ≤ b ∧ b ≤ σ.2 0 1 - 1) ∧ (0 ≤ w9 ∧ w9 ≤ 1) := b01_n.mp c17
    obtain ⟨nb, hnb, rfl⟩ := o_ix c17.1 (congrArg (· - 1) hok.1) (by omega)
    obtain ⟨nw, hnw, rfl⟩ := o_ix c17.2 (show (1 : Int32) = nI 2 - 1 by decide) (by omega)
    refine lv_aload_n hx hb dX5_bracketOf_20 rfl (lv_at hl 0 rfl) ?_
    refine mo_get hx hb hts hown hw hM 0 (by decide) q2554 rfl (v := .ref (ma 0)) rfl dX5_bracketOf_21 ?_
    refine lv_bipush (v := 13) hx hb dX5_bracketOf_24 (by decide) ?_
    refine lv_iconst (v := 2) hx hb dX5_bracketOf_26 (by decide) ?_
    refine lv_iload_n hx hb dX5_bracketOf_27 rfl (lv_at hl 1 rfl) ?_
    refine lv_imul hx hb dX5_bracketOf_28 ?_
    refine lv_tope (y := nI (2 * nb)) (by simp only [nI, Int32.ofNat_add, Int32.ofNat_mul] <;> rfl) ?_
    refine lv_iadd hx hb dX5_bracketOf_29 ?_
    refine lv_tope (y := nI (13 + 2 * nb)) (by simp only [nI, Int32.ofNat_add, Int32.ofNat_mul] <;> rfl) ?_
    refine lv_iload_n hx hb dX5_bracketOf_30 rfl (lv_at hl 2 rfl) ?_
    refine lv_iadd hx hb dX5_bracketOf_31 ?_
    refine lv_tope (y := nI (13 + 2 * nb + nw)) (by simp only [nI, Int32.ofNat_add, Int32.ofNat_mul] <;> rfl) ?_
    refine mo_ald hx hb hw hM 0 rfl (j := (13 + 2 * nb + nw)) rfl (show 13 + 2 * nb + nw < 137 by omega) dX5_bracketOf_32 ?_
    refine lv_goto (tgt := 37) hx hb dX5_bracketOf_33 (by decide) ?_
    exact hret rfl hw ⟨by rw [if_pos c17, o_n_nI (show nb < 2 ^ 31 by omega), o_n_nI (show nw < 2 ^ 31 by omega)] <;> rfl, hM, hF⟩ (Nat.le_of_ble_eq_true rfl) (Nat.le_of_ble_eq_true rfl) dX5_bracketOf_37
set_option maxHeartbeats 400000 in
theorem met_X5_taxNow (l : Launch) (G : hG) {h : hp} {o : Nat} {ma : Nat → Nat} {σ : MS} (hM : isMod G h o ma σ) (c9 : Int32) (hok : okI (σ.2 0)) : mo_Mi l G yX5_taxNow (ws_ yX5_taxNow cX5_taxNow 2 (Option.some Jvm.ClassFile.FieldType.int)) ({ frames := 5, cells := 0, slots := 0, locals := 115 } : Room) [.ref o, .int c9] h o ma (if (0 ≤ c9 ∧ c9 ≤ σ.2 0 5 - 1) ∧ True then o_tax (σ.2 0) (o_n c9) (σ.2 0 (23 + 19 * o_n c9 + 0)) False else 0) (mo_st σ 15 (m_gv ((0 ≤ c9 ∧ c9 ≤ σ.2 0 5 - 1)) 1 (True) 0)) := by
  refine hv_bi .int (Or.inl rfl) (own := RX5) (by decide +kernel) rfl (Nat.le_of_ble_eq_true rfl) (fun p e s m a below meth c ls Q hx hb hml hown hts hnm hret hw hl => ?_)
  have hl : lv_has ls 2 [(0, .ref o), (1, .int c9)] := hl
  have hF : mo_fr o ma h h := mo_fr.rf
  have hmx : o_many (σ.2 0) ≤ 5 := hok.2.2.1
  have hpx : o_people (σ.2 0) ≤ 6 := hok.2.2.2.2.1
  refine lv_aload_n hx hb dX5_taxNow_0 rfl (lv_at hl 0 rfl) ?_
  refine lv_aload_n hx hb dX5_taxNow_1 rfl (lv_at hl 0 rfl) ?_
  refine lv_iload_n hx hb dX5_taxNow_2 rfl (lv_at hl 1 rfl) ?_
  refine hv_callir (va_runV (As := [.int c9]) (rest := [.ref o]) ⟨hx, hb, hml, hown, hts⟩ (met_X5_isCitizen l G hM c9 ) (cwV 1 hts (lw_V q2736 q2738 qs58 q106 q2739) rfl rfl rfl (by decide +kernel) ⟨Nat.le_of_ble_eq_true rfl, Nat.le_of_ble_eq_true rfl⟩) (hv_preV hw pk_X5 hM.1) rfl rfl hl.1 rfl (lv_room (Nat.le_of_ble_eq_true rfl)) dX5_taxNow_3 ⟨Nat.le_of_ble_eq_true rfl, Nat.le_of_ble_eq_true rfl⟩) hw (fun H locs hw => ?_)
  refine lv_iconst (v := 1) hx hb dX5_taxNow_6 (by decide) ?_
  refine lv_iconst (v := 1) hx hb dX5_taxNow_7 (by decide) ?_
  refine lv_iconst (v := 0) hx hb dX5_taxNow_8 (by decide) ?_
  refine mo_calli (va_runV (As := [.int (b01 (0 ≤ c9 ∧ c9 ≤ σ.2 0 5 - 1)), .int 1, .int 1, .int 0]) (rest := []) ⟨hx, hb, hml, hown, hts⟩ (met_X5_goes l G hM (0 ≤ c9 ∧ c9 ≤ σ.2 0 5 - 1) 1 (True) 0 (by decide) (fun z => absurd trivial z)) (cwV 4 hts (lw_V q2825 q2827 qs75 q106 q2828) rfl rfl rfl (by decide +kernel) ⟨Nat.le_of_ble_eq_true rfl, Nat.le_of_ble_eq_true rfl⟩) (hv_preV hw pk_X5 hM.1) rfl rfl hl.1 rfl (lv_room (Nat.le_of_ble_eq_true rfl)) dX5_taxNow_9 ⟨Nat.le_of_ble_eq_true rfl, Nat.le_of_ble_eq_true rfl⟩) hw hF (fun hh H locs hM hF hw => ?_)
  refine lv_if_eq (tgt := 30) hx hb dX5_taxNow_12 (by decide) (fun c12 => ?_) (fun c12 => ?_)
  · skip
    have c12 : ¬ ((0 ≤ c9 ∧ c9 ≤ σ.2 0 5 - 1) ∧ (True)) := b01_0.mp c12
    refine lv_iconst (v := 0) hx hb dX5_taxNow_30 (by decide) ?_
    exact hret rfl hw ⟨(if_neg c12).symm, hM, hF⟩ (Nat.le_of_ble_eq_true rfl) (Nat.le_of_ble_eq_true rfl) dX5_taxNow_31
  · skip
    have c12 : (0 ≤ c9 ∧ c9 ≤ σ.2 0 5 - 1) ∧ (True) := b01_n.mp c12
    obtain ⟨nc, hnc, rfl⟩ := o_ix c12.1 (congrArg (· - 1) hok.2.2.2.1) (by omega)
    refine lv_aload_n hx hb dX5_taxNow_15 rfl (lv_at hl 0 rfl) ?_
    refine lv_iload_n hx hb dX5_taxNow_16 rfl (lv_at hl 1 rfl) ?_
    refine lv_aload_n hx hb dX5_taxNow_17 rfl (lv_at hl 0 rfl) ?_
    refine lv_iload_n hx hb dX5_taxNow_18 rfl (lv_at hl 1 rfl) ?_
    refine lv_iconst (v := 0) hx hb dX5_taxNow_19 (by decide) ?_
    refine hv_callir (va_runV (As := [.int (nI nc), .int 0]) (rest := [.int (nI nc), .ref o]) ⟨hx, hb, hml, hown, hts⟩ (met_X5_of l G hM nc 0 (show 23 + 19 * nc + 0 < 137 by omega)) (cwV 2 hts (lw_V q2740 q2742 qs59 q106 q2743) rfl rfl rfl (by decide +kernel) ⟨Nat.le_of_ble_eq_true rfl, Nat.le_of_ble_eq_true rfl⟩) (hv_preV hw pk_X5 hM.1) rfl rfl hl.1 rfl (lv_room (Nat.le_of_ble_eq_true rfl)) dX5_taxNow_20 ⟨Nat.le_of_ble_eq_true rfl, Nat.le_of_ble_eq_true rfl⟩) hw (fun H locs hw => ?_)
    refine lv_iconst (v := 0) hx hb dX5_taxNow_23 (by decide) ?_
    refine hv_callir (va_runV (As := [.int (nI nc), .int (σ.2 0 (23 + 19 * nc + 0)), .int 0]) (rest := []) ⟨hx, hb, hml, hown, hts⟩ (met_X5_taxOf l G hM nc (σ.2 0 (23 + 19 * nc + 0)) (False) (hok) (show nc < o_people (σ.2 0) by omega)) (cwV 3 hts (lw_V q2861 q2863 qs78 q106 q2864) rfl rfl rfl (by decide +kernel) ⟨Nat.le_of_ble_eq_true rfl, Nat.le_of_ble_eq_true rfl⟩) (hv_preV hw pk_X5 hM.1) rfl rfl hl.1 rfl (lv_room (Nat.le_of_ble_eq_true rfl)) dX5_taxNow_24 ⟨Nat.le_of_ble_eq_true rfl, Nat.le_of_ble_eq_true rfl⟩) hw (fun H locs hw => ?_)
    refine lv_goto (tgt := 31) hx hb dX5_taxNow_27 (by decide) ?_
    exact hret rfl hw ⟨by rw [if_pos c12, o_n_nI (show nc < 2 ^ 31 by omega)] <;> rfl, hM, hF⟩ (Nat.le_of_ble_eq_true rfl) (Nat.le_of_ble_eq_true rfl) dX5_taxNow_31
set_option maxHeartbeats 400000 in
theorem met_X5_taxAgain (l : Launch) (G : hG) {h : hp} {o : Nat} {ma : Nat → Nat} {σ : MS} (hM : isMod G h o ma σ) (c9 : Int32) (hok : okI (σ.2 0)) : mo_Mi l G yX5_taxAgain (ws_ yX5_taxAgain cX5_taxAgain 2 (Option.some Jvm.ClassFile.FieldType.int)) ({ frames := 6, cells := 0, slots := 0, locals := 136 } : Room) [.ref o, .int c9] h o ma (if (0 ≤ c9 ∧ c9 ≤ σ.2 0 5 - 1) ∧ True then o_tax (σ.2 0) (o_n c9) (σ.2 0 (23 + 19 * o_n c9 + 0)) False else 0) (mo_st σ 15 (m_gv ((0 ≤ c9 ∧ c9 ≤ σ.2 0 5 - 1)) 1 (True) 0)) := by
  refine hv_bi .int (Or.inl rfl) (own := RX5) (by decide +kernel) rfl (Nat.le_of_ble_eq_true rfl) (fun p e s m a below meth c ls Q hx hb hml hown hts hnm hret hw hl => ?_)
  have hl : lv_has ls 2 [(0, .ref o), (1, .int c9)] := hl
  have hF : mo_fr o ma h h := mo_fr.rf
  refine lv_aload_n hx hb dX5_taxAgain_0 rfl (lv_at hl 0 rfl) ?_
  refine lv_iload_n hx hb dX5_taxAgain_1 rfl (lv_at hl 1 rfl) ?_
  refine mo_calli (va_runV (As := [.int c9]) (rest := []) ⟨hx, hb, hml, hown, hts⟩ (met_X5_taxNow l G hM c9 (hok)) (cwV 1 hts (lw_V q2869 q2858 q2859 q106 q2860) rfl rfl rfl (by decide +kernel) ⟨Nat.le_of_ble_eq_true rfl, Nat.le_of_ble_eq_true rfl⟩) (hv_preV hw pk_X5 hM.1) rfl rfl hl.1 rfl (lv_room (Nat.le_of_ble_eq_true rfl)) dX5_taxAgain_2 ⟨Nat.le_of_ble_eq_true rfl, Nat.le_of_ble_eq_true rfl⟩) hw hF (fun hh H locs hM hF hw => ?_)
  exact hret rfl hw ⟨rfl, hM, hF⟩ (Nat.le_of_ble_eq_true rfl) (Nat.le_of_ble_eq_true rfl) dX5_taxAgain_5
set_option maxHeartbeats 400000 in
theorem met_X5_auditCosts (l : Launch) (G : hG) {h : hp} {o : Nat} {ma : Nat → Nat} {σ : MS} (hM : isMod G h o ma σ) (c9 : Int32) (hok : okI (σ.2 0)) : mo_Mi l G yX5_auditCosts (ws_ yX5_auditCosts cX5_auditCosts 3 (Option.some Jvm.ClassFile.FieldType.int)) ({ frames := 5, cells := 0, slots := 0, locals := 115 } : Room) [.ref o, .int c9] h o ma (if (0 ≤ c9 ∧ c9 ≤ σ.2 0 5 - 1) ∧ True then o_tax (σ.2 0) (o_n c9) (σ.2 0 (23 + 19 * o_n c9 + 0)) True + o_bare (σ.2 0) (o_n c9) 3 / 10 - o_tax (σ.2 0) (o_n c9) (σ.2 0 (23 + 19 * o_n c9 + 0)) False else 0) (mo_st σ 15 (m_gv ((0 ≤ c9 ∧ c9 ≤ σ.2 0 5 - 1)) 1 (True) 0)) := by
  refine hv_bi .int (Or.inl rfl) (own := RX5) (by decide +kernel) rfl (Nat.le_of_ble_eq_true rfl) (fun p e s m a below meth c ls Q hx hb hml hown hts hnm hret hw hl => ?_)
  have hl : lv_has ls 3 [(0, .ref o), (1, .int c9)] := hl
  have hF : mo_fr o ma h h := mo_fr.rf
  have hmx : o_many (σ.2 0) ≤ 5 := hok.2.2.1
  have hpx : o_people (σ.2 0) ≤ 6 := hok.2.2.2.2.1
  refine lv_aload_n hx hb dX5_auditCosts_0 rfl (lv_at hl 0 rfl) ?_
  refine lv_aload_n hx hb dX5_auditCosts_1 rfl (lv_at hl 0 rfl) ?_
  refine lv_iload_n hx hb dX5_auditCosts_2 rfl (lv_at hl 1 rfl) ?_
  refine hv_callir (va_runV (As := [.int c9]) (rest := [.ref o]) ⟨hx, hb, hml, hown, hts⟩ (met_X5_isCitizen l G hM c9 ) (cwV 1 hts (lw_V q2736 q2738 qs58 q106 q2739) rfl rfl rfl (by decide +kernel) ⟨Nat.le_of_ble_eq_true rfl, Nat.le_of_ble_eq_true rfl⟩) (hv_preV hw pk_X5 hM.1) rfl rfl hl.1 rfl (lv_room (Nat.le_of_ble_eq_true rfl)) dX5_auditCosts_3 ⟨Nat.le_of_ble_eq_true rfl, Nat.le_of_ble_eq_true rfl⟩) hw (fun H locs hw => ?_)
  refine lv_iconst (v := 1) hx hb dX5_auditCosts_6 (by decide) ?_
  refine lv_iconst (v := 1) hx hb dX5_auditCosts_7 (by decide) ?_
  refine lv_iconst (v := 0) hx hb dX5_auditCosts_8 (by decide) ?_
  refine mo_calli (va_runV (As := [.int (b01 (0 ≤ c9 ∧ c9 ≤ σ.2 0 5 - 1)), .int 1, .int 1, .int 0]) (rest := []) ⟨hx, hb, hml, hown, hts⟩ (met_X5_goes l G hM (0 ≤ c9 ∧ c9 ≤ σ.2 0 5 - 1) 1 (True) 0 (by decide) (fun z => absurd trivial z)) (cwV 4 hts (lw_V q2825 q2827 qs75 q106 q2828) rfl rfl rfl (by decide +kernel) ⟨Nat.le_of_ble_eq_true rfl, Nat.le_of_ble_eq_true rfl⟩) (hv_preV hw pk_X5 hM.1) rfl rfl hl.1 rfl (lv_room (Nat.le_of_ble_eq_true rfl)) dX5_auditCosts_9 ⟨Nat.le_of_ble_eq_true rfl, Nat.le_of_ble_eq_true rfl⟩) hw hF (fun hh H locs hM hF hw => ?_)
  refine lv_if_ne (tgt := 17) hx hb dX5_auditCosts_12 (by decide) (fun c12 => ?_) (fun c12 => ?_)
  · skip
    have c12 : (0 ≤ c9 ∧ c9 ≤ σ.2 0 5 - 1) ∧ (True) := b01_n.mp c12
    obtain ⟨nc, hnc, rfl⟩ := o_ix c12.1 (congrArg (· - 1) hok.2.2.2.1) (by omega)
    refine lv_aload_n hx hb dX5_auditCosts_17 rfl (lv_at hl 0 rfl) ?_
    refine lv_iload_n hx hb dX5_auditCosts_18 rfl (lv_at hl 1 rfl) ?_
    refine lv_iconst (v := 0) hx hb dX5_auditCosts_19 (by decide) ?_
    refine hv_callir (va_runV (As := [.int (nI nc), .int 0]) (rest := []) ⟨hx, hb, hml, hown, hts⟩ (met_X5_of l G hM nc 0 (show 23 + 19 * nc + 0 < 137 by omega)) (cwV 2 hts (lw_V q2740 q2742 qs59 q106 q2743) rfl rfl rfl (by decide +kernel) ⟨Nat.le_of_ble_eq_true rfl, Nat.le_of_ble_eq_true rfl⟩) (hv_preV hw pk_X5 hM.1) rfl rfl hl.1 rfl (lv_room (Nat.le_of_ble_eq_true rfl)) dX5_auditCosts_20 ⟨Nat.le_of_ble_eq_true rfl, Nat.le_of_ble_eq_true rfl⟩) hw (fun H locs hw => ?_)
    refine lv_istore_n (lv' := [(2, .int (σ.2 0 (23 + 19 * nc + 0))), (0, .ref o), (1, .int (nI nc))]) hx hb dX5_auditCosts_23 rfl hl (by decide) rfl (fun ls hl => ?_)
    refine lv_aload_n hx hb dX5_auditCosts_24 rfl (lv_at hl 1 rfl) ?_
    refine lv_iload_n hx hb dX5_auditCosts_25 rfl (lv_at hl 2 rfl) ?_
    refine lv_iload_n hx hb dX5_auditCosts_26 rfl (lv_at hl 0 rfl) ?_
    refine lv_iconst (v := 1) hx hb dX5_auditCosts_27 (by decide) ?_
    refine hv_callir (va_runV (As := [.int (nI nc), .int (σ.2 0 (23 + 19 * nc + 0)), .int 1]) (rest := []) ⟨hx, hb, hml, hown, hts⟩ (met_X5_taxOf l G hM nc (σ.2 0 (23 + 19 * nc + 0)) (True) (hok) (show nc < o_people (σ.2 0) by omega)) (cwV 3 hts (lw_V q2861 q2863 qs78 q106 q2864) rfl rfl rfl (by decide +kernel) ⟨Nat.le_of_ble_eq_true rfl, Nat.le_of_ble_eq_true rfl⟩) (hv_preV hw pk_X5 hM.1) rfl rfl hl.1 rfl (lv_room (Nat.le_of_ble_eq_true rfl)) dX5_auditCosts_28 ⟨Nat.le_of_ble_eq_true rfl, Nat.le_of_ble_eq_true rfl⟩) hw (fun H locs hw => ?_)
    refine lv_aload_n hx hb dX5_auditCosts_31 rfl (lv_at hl 1 rfl) ?_
    refine lv_iload_n hx hb dX5_auditCosts_32 rfl (lv_at hl 2 rfl) ?_
    refine hv_callir (va_runV (As := [.int (nI nc)]) (rest := [.int (o_tax (σ.2 0) nc (σ.2 0 (23 + 19 * nc + 0)) (True))]) ⟨hx, hb, hml, hown, hts⟩ (met_X5_allUnproved l G hM nc (show nc < 6 by omega)) (cwV 1 hts (lw_V q2809 q2811 qs72 q106 q2812) rfl rfl rfl (by decide +kernel) ⟨Nat.le_of_ble_eq_true rfl, Nat.le_of_ble_eq_true rfl⟩) (hv_preV hw pk_X5 hM.1) rfl rfl hl.1 rfl (lv_room (Nat.le_of_ble_eq_true rfl)) dX5_auditCosts_33 ⟨Nat.le_of_ble_eq_true rfl, Nat.le_of_ble_eq_true rfl⟩) hw (fun H locs hw => ?_)
    refine lv_bipush (v := 10) hx hb dX5_auditCosts_36 (by decide) ?_
    refine lv_idiv hx hb dX5_auditCosts_38 (by decide) ?_
    refine lv_iadd hx hb dX5_auditCosts_39 ?_
    refine lv_aload_n hx hb dX5_auditCosts_40 rfl (lv_at hl 1 rfl) ?_
    refine lv_iload_n hx hb dX5_auditCosts_41 rfl (lv_at hl 2 rfl) ?_
    refine lv_iload_n hx hb dX5_auditCosts_42 rfl (lv_at hl 0 rfl) ?_
    refine lv_iconst (v := 0) hx hb dX5_auditCosts_43 (by decide) ?_
    refine hv_callir (va_runV (As := [.int (nI nc), .int (σ.2 0 (23 + 19 * nc + 0)), .int 0]) (rest := [.int ((o_tax (σ.2 0) nc (σ.2 0 (23 + 19 * nc + 0)) (True)) + ((o_bare (σ.2 0) nc 3) / 10))]) ⟨hx, hb, hml, hown, hts⟩ (met_X5_taxOf l G hM nc (σ.2 0 (23 + 19 * nc + 0)) (False) (hok) (show nc < o_people (σ.2 0) by omega)) (cwV 3 hts (lw_V q2861 q2863 qs78 q106 q2864) rfl rfl rfl (by decide +kernel) ⟨Nat.le_of_ble_eq_true rfl, Nat.le_of_ble_eq_true rfl⟩) (hv_preV hw pk_X5 hM.1) rfl rfl hl.1 rfl (lv_room (Nat.le_of_ble_eq_true rfl)) dX5_auditCosts_44 ⟨Nat.le_of_ble_eq_true rfl, Nat.le_of_ble_eq_true rfl⟩) hw (fun H locs hw => ?_)
    refine lv_isub hx hb dX5_auditCosts_47 ?_
    exact hret rfl hw ⟨by rw [if_pos c12, o_n_nI (show nc < 2 ^ 31 by omega)] <;> rfl, hM, hF⟩ (Nat.le_of_ble_eq_true rfl) (Nat.le_of_ble_eq_true rfl) dX5_auditCosts_48
  · skip
    have c12 : ¬ ((0 ≤ c9 ∧ c9 ≤ σ.2 0 5 - 1) ∧ (True)) := b01_0.mp c12
    refine lv_iconst (v := 0) hx hb dX5_auditCosts_15 (by decide) ?_
    exact hret rfl hw ⟨(if_neg c12).symm, hM, hF⟩ (Nat.le_of_ble_eq_true rfl) (Nat.le_of_ble_eq_true rfl) dX5_auditCosts_16
set_option maxHeartbeats 400000 in
theorem met_X5_left (l : Launch) (G : hG) {h : hp} {o : Nat} {ma : Nat → Nat} {σ : MS} (hM : isMod G h o ma σ) (c9 : Int32) (x : Int32) (hok : okI (σ.2 0)) : mo_Mi l G yX5_left (ws_ yX5_left cX5_left 3 (Option.some Jvm.ClassFile.FieldType.int)) ({ frames := 5, cells := 0, slots := 0, locals := 115 } : Room) [.ref o, .int c9, .int x] h o ma (if (0 ≤ c9 ∧ c9 ≤ σ.2 0 5 - 1) ∧ (0 ≤ x ∧ x ≤ 9999) then x - o_tax (σ.2 0) (o_n c9) x False else 0) (mo_st σ 15 (m_gv ((0 ≤ c9 ∧ c9 ≤ σ.2 0 5 - 1)) 1 ((0 ≤ x ∧ x ≤ 9999)) 2)) := by
  refine hv_bi .int (Or.inl rfl) (own := RX5) (by decide +kernel) rfl (Nat.le_of_ble_eq_true rfl) (fun p e s m a below meth c ls Q hx hb hml hown hts hnm hret hw hl => ?_)
  have hl : lv_has ls 3 [(0, .ref o), (1, .int c9), (2, .int x)] := hl
  have hF : mo_fr o ma h h := mo_fr.rf
  have hmx : o_many (σ.2 0) ≤ 5 := hok.2.2.1
  have hpx : o_people (σ.2 0) ≤ 6 := hok.2.2.2.2.1
  refine lv_aload_n hx hb dX5_left_0 rfl (lv_at hl 0 rfl) ?_
  refine lv_aload_n hx hb dX5_left_1 rfl (lv_at hl 0 rfl) ?_
  refine lv_iload_n hx hb dX5_left_2 rfl (lv_at hl 1 rfl) ?_
  refine hv_callir (va_runV (As := [.int c9]) (rest := [.ref o]) ⟨hx, hb, hml, hown, hts⟩ (met_X5_isCitizen l G hM c9 ) (cwV 1 hts (lw_V q2736 q2738 qs58 q106 q2739) rfl rfl rfl (by decide +kernel) ⟨Nat.le_of_ble_eq_true rfl, Nat.le_of_ble_eq_true rfl⟩) (hv_preV hw pk_X5 hM.1) rfl rfl hl.1 rfl (lv_room (Nat.le_of_ble_eq_true rfl)) dX5_left_3 ⟨Nat.le_of_ble_eq_true rfl, Nat.le_of_ble_eq_true rfl⟩) hw (fun H locs hw => ?_)
  refine lv_iconst (v := 1) hx hb dX5_left_6 (by decide) ?_
  refine lv_aload_n hx hb dX5_left_7 rfl (lv_at hl 0 rfl) ?_
  refine lv_iload_n hx hb dX5_left_8 rfl (lv_at hl 2 rfl) ?_
  refine hv_callir (va_runV (As := [.int x]) (rest := [.int 1, .int (b01 (0 ≤ c9 ∧ c9 ≤ σ.2 0 5 - 1)), .ref o]) ⟨hx, hb, hml, hown, hts⟩ (met_X5_isIncome l G hM x ) (cwV 1 hts (lw_V q2853 q2855 qs77 q106 q2856) rfl rfl rfl (by decide +kernel) ⟨Nat.le_of_ble_eq_true rfl, Nat.le_of_ble_eq_true rfl⟩) (hv_preV hw pk_X5 hM.1) rfl rfl hl.1 rfl (lv_room (Nat.le_of_ble_eq_true rfl)) dX5_left_9 ⟨Nat.le_of_ble_eq_true rfl, Nat.le_of_ble_eq_true rfl⟩) hw (fun H locs hw => ?_)
  refine lv_iconst (v := 2) hx hb dX5_left_12 (by decide) ?_
  refine mo_calli (va_runV (As := [.int (b01 (0 ≤ c9 ∧ c9 ≤ σ.2 0 5 - 1)), .int 1, .int (b01 (0 ≤ x ∧ x ≤ 9999)), .int 2]) (rest := []) ⟨hx, hb, hml, hown, hts⟩ (met_X5_goes l G hM (0 ≤ c9 ∧ c9 ≤ σ.2 0 5 - 1) 1 (0 ≤ x ∧ x ≤ 9999) 2 (by decide) (fun _ => by decide)) (cwV 4 hts (lw_V q2825 q2827 qs75 q106 q2828) rfl rfl rfl (by decide +kernel) ⟨Nat.le_of_ble_eq_true rfl, Nat.le_of_ble_eq_true rfl⟩) (hv_preV hw pk_X5 hM.1) rfl rfl hl.1 rfl (lv_room (Nat.le_of_ble_eq_true rfl)) dX5_left_13 ⟨Nat.le_of_ble_eq_true rfl, Nat.le_of_ble_eq_true rfl⟩) hw hF (fun hh H locs hM hF hw => ?_)
  refine lv_if_eq (tgt := 31) hx hb dX5_left_16 (by decide) (fun c16 => ?_) (fun c16 => ?_)
  · skip
    have c16 : ¬ ((0 ≤ c9 ∧ c9 ≤ σ.2 0 5 - 1) ∧ (0 ≤ x ∧ x ≤ 9999)) := b01_0.mp c16
    refine lv_iconst (v := 0) hx hb dX5_left_31 (by decide) ?_
    exact hret rfl hw ⟨(if_neg c16).symm, hM, hF⟩ (Nat.le_of_ble_eq_true rfl) (Nat.le_of_ble_eq_true rfl) dX5_left_32
  · skip
    have c16 : (0 ≤ c9 ∧ c9 ≤ σ.2 0 5 - 1) ∧ (0 ≤ x ∧ x ≤ 9999) := b01_n.mp c16
    obtain ⟨nc, hnc, rfl⟩ := o_ix c16.1 (congrArg (· - 1) hok.2.2.2.1) (by omega)
    refine lv_iload_n hx hb dX5_left_19 rfl (lv_at hl 2 rfl) ?_
    refine lv_aload_n hx hb dX5_left_20 rfl (lv_at hl 0 rfl) ?_
    refine lv_iload_n hx hb dX5_left_21 rfl (lv_at hl 1 rfl) ?_
    refine lv_iload_n hx hb dX5_left_22 rfl (lv_at hl 2 rfl) ?_
    refine lv_iconst (v := 0) hx hb dX5_left_23 (by decide) ?_
    refine hv_callir (va_runV (As := [.int (nI nc), .int x, .int 0]) (rest := [.int x]) ⟨hx, hb, hml, hown, hts⟩ (met_X5_taxOf l G hM nc x (False) (hok) (show nc < o_people (σ.2 0) by omega)) (cwV 3 hts (lw_V q2861 q2863 qs78 q106 q2864) rfl rfl rfl (by decide +kernel) ⟨Nat.le_of_ble_eq_true rfl, Nat.le_of_ble_eq_true rfl⟩) (hv_preV hw pk_X5 hM.1) rfl rfl hl.1 rfl (lv_room (Nat.le_of_ble_eq_true rfl)) dX5_left_24 ⟨Nat.le_of_ble_eq_true rfl, Nat.le_of_ble_eq_true rfl⟩) hw (fun H locs hw => ?_)
    refine lv_isub hx hb dX5_left_27 ?_
    refine lv_goto (tgt := 32) hx hb dX5_left_28 (by decide) ?_
    exact hret rfl hw ⟨by rw [if_pos c16, o_n_nI (show nc < 2 ^ 31 by omega)] <;> rfl, hM, hF⟩ (Nat.le_of_ble_eq_true rfl) (Nat.le_of_ble_eq_true rfl) dX5_left_32
set_option maxHeartbeats 400000 in
theorem met_X5_margin (l : Launch) (G : hG) {h : hp} {o : Nat} {ma : Nat → Nat} {σ : MS} (hM : isMod G h o ma σ) (c9 : Int32) (hok : okI (σ.2 0)) : mo_Mi l G yX5_margin (ws_ yX5_margin cX5_margin 3 (Option.some Jvm.ClassFile.FieldType.int)) ({ frames := 4, cells := 0, slots := 0, locals := 91 } : Room) [.ref o, .int c9] h o ma (if (0 ≤ c9 ∧ c9 ≤ σ.2 0 5 - 1) ∧ True then o_dues (σ.2 0) (σ.2 0 (23 + 19 * o_n c9 + 0) + 1) (o_counts (σ.2 0) (o_n c9) False 3) - o_dues (σ.2 0) (σ.2 0 (23 + 19 * o_n c9 + 0)) (o_counts (σ.2 0) (o_n c9) False 3) else 0) (mo_st σ 15 (m_gv ((0 ≤ c9 ∧ c9 ≤ σ.2 0 5 - 1)) 1 (True) 0)) := by
  refine hv_bi .int (Or.inl rfl) (own := RX5) (by decide +kernel) rfl (Nat.le_of_ble_eq_true rfl) (fun p e s m a below meth c ls Q hx hb hml hown hts hnm hret hw hl => ?_)
  have hl : lv_has ls 3 [(0, .ref o), (1, .int c9)] := hl
  have hF : mo_fr o ma h h := mo_fr.rf
  have hmx : o_many (σ.2 0) ≤ 5 := hok.2.2.1
  have hpx : o_people (σ.2 0) ≤ 6 := hok.2.2.2.2.1
  refine lv_aload_n hx hb dX5_margin_0 rfl (lv_at hl 0 rfl) ?_
  refine lv_aload_n hx hb dX5_margin_1 rfl (lv_at hl 0 rfl) ?_
  refine lv_iload_n hx hb dX5_margin_2 rfl (lv_at hl 1 rfl) ?_
  refine hv_callir (va_runV (As := [.int c9]) (rest := [.ref o]) ⟨hx, hb, hml, hown, hts⟩ (met_X5_isCitizen l G hM c9 ) (cwV 1 hts (lw_V q2736 q2738 qs58 q106 q2739) rfl rfl rfl (by decide +kernel) ⟨Nat.le_of_ble_eq_true rfl, Nat.le_of_ble_eq_true rfl⟩) (hv_preV hw pk_X5 hM.1) rfl rfl hl.1 rfl (lv_room (Nat.le_of_ble_eq_true rfl)) dX5_margin_3 ⟨Nat.le_of_ble_eq_true rfl, Nat.le_of_ble_eq_true rfl⟩) hw (fun H locs hw => ?_)
  refine lv_iconst (v := 1) hx hb dX5_margin_6 (by decide) ?_
  refine lv_iconst (v := 1) hx hb dX5_margin_7 (by decide) ?_
  refine lv_iconst (v := 0) hx hb dX5_margin_8 (by decide) ?_
  refine mo_calli (va_runV (As := [.int (b01 (0 ≤ c9 ∧ c9 ≤ σ.2 0 5 - 1)), .int 1, .int 1, .int 0]) (rest := []) ⟨hx, hb, hml, hown, hts⟩ (met_X5_goes l G hM (0 ≤ c9 ∧ c9 ≤ σ.2 0 5 - 1) 1 (True) 0 (by decide) (fun z => absurd trivial z)) (cwV 4 hts (lw_V q2825 q2827 qs75 q106 q2828) rfl rfl rfl (by decide +kernel) ⟨Nat.le_of_ble_eq_true rfl, Nat.le_of_ble_eq_true rfl⟩) (hv_preV hw pk_X5 hM.1) rfl rfl hl.1 rfl (lv_room (Nat.le_of_ble_eq_true rfl)) dX5_margin_9 ⟨Nat.le_of_ble_eq_true rfl, Nat.le_of_ble_eq_true rfl⟩) hw hF (fun hh H locs hM hF hw => ?_)
  refine lv_if_ne (tgt := 17) hx hb dX5_margin_12 (by decide) (fun c12 => ?_) (fun c12 => ?_)
  · skip
    have c12 : (0 ≤ c9 ∧ c9 ≤ σ.2 0 5 - 1) ∧ (True) := b01_n.mp c12
    obtain ⟨nc, hnc, rfl⟩ := o_ix c12.1 (congrArg (· - 1) hok.2.2.2.1) (by omega)
    refine lv_aload_n hx hb dX5_margin_17 rfl (lv_at hl 0 rfl) ?_
    refine lv_iload_n hx hb dX5_margin_18 rfl (lv_at hl 1 rfl) ?_
    refine lv_iconst (v := 0) hx hb dX5_margin_19 (by decide) ?_
    refine hv_callir (va_runV (As := [.int (nI nc), .int 0]) (rest := []) ⟨hx, hb, hml, hown, hts⟩ (met_X5_counts l G hM nc (False) (show nc < 6 by omega)) (cwV 2 hts (lw_V q2796 q2798 qs69 q106 q2799) rfl rfl rfl (by decide +kernel) ⟨Nat.le_of_ble_eq_true rfl, Nat.le_of_ble_eq_true rfl⟩) (hv_preV hw pk_X5 hM.1) rfl rfl hl.1 rfl (lv_room (Nat.le_of_ble_eq_true rfl)) dX5_margin_20 ⟨Nat.le_of_ble_eq_true rfl, Nat.le_of_ble_eq_true rfl⟩) hw (fun H locs hw => ?_)
    refine lv_istore_n (lv' := [(2, .int (o_counts (σ.2 0) nc (False) 3)), (0, .ref o), (1, .int (nI nc))]) hx hb dX5_margin_23 rfl hl (by decide) rfl (fun ls hl => ?_)
    refine lv_aload_n hx hb dX5_margin_24 rfl (lv_at hl 1 rfl) ?_
    refine lv_aload_n hx hb dX5_margin_25 rfl (lv_at hl 1 rfl) ?_
    refine lv_iload_n hx hb dX5_margin_26 rfl (lv_at hl 2 rfl) ?_
    refine lv_iconst (v := 0) hx hb dX5_margin_27 (by decide) ?_
    refine hv_callir (va_runV (As := [.int (nI nc), .int 0]) (rest := [.ref o]) ⟨hx, hb, hml, hown, hts⟩ (met_X5_of l G hM nc 0 (show 23 + 19 * nc + 0 < 137 by omega)) (cwV 2 hts (lw_V q2740 q2742 qs59 q106 q2743) rfl rfl rfl (by decide +kernel) ⟨Nat.le_of_ble_eq_true rfl, Nat.le_of_ble_eq_true rfl⟩) (hv_preV hw pk_X5 hM.1) rfl rfl hl.1 rfl (lv_room (Nat.le_of_ble_eq_true rfl)) dX5_margin_28 ⟨Nat.le_of_ble_eq_true rfl, Nat.le_of_ble_eq_true rfl⟩) hw (fun H locs hw => ?_)
    refine lv_iconst (v := 1) hx hb dX5_margin_31 (by decide) ?_
    refine lv_iadd hx hb dX5_margin_32 ?_
    refine lv_iload_n hx hb dX5_margin_33 rfl (lv_at hl 0 rfl) ?_
    refine hv_callir (va_runV (As := [.int ((σ.2 0 (23 + 19 * nc + 0)) + 1), .int (o_counts (σ.2 0) nc (False) 3)]) (rest := []) ⟨hx, hb, hml, hown, hts⟩ (met_X5_dues l G hM ((σ.2 0 (23 + 19 * nc + 0)) + 1) (o_counts (σ.2 0) nc (False) 3) (hok)) (cwV 2 hts (lw_V q2800 q2802 qs70 q106 q2803) rfl rfl rfl (by decide +kernel) ⟨Nat.le_of_ble_eq_true rfl, Nat.le_of_ble_eq_true rfl⟩) (hv_preV hw pk_X5 hM.1) rfl rfl hl.1 rfl (lv_room (Nat.le_of_ble_eq_true rfl)) dX5_margin_34 ⟨Nat.le_of_ble_eq_true rfl, Nat.le_of_ble_eq_true rfl⟩) hw (fun H locs hw => ?_)
    refine lv_aload_n hx hb dX5_margin_37 rfl (lv_at hl 1 rfl) ?_
    refine lv_aload_n hx hb dX5_margin_38 rfl (lv_at hl 1 rfl) ?_
    refine lv_iload_n hx hb dX5_margin_39 rfl (lv_at hl 2 rfl) ?_
    refine lv_iconst (v := 0) hx hb dX5_margin_40 (by decide) ?_
    refine hv_callir (va_runV (As := [.int (nI nc), .int 0]) (rest := [.ref o, .int (o_dues (σ.2 0) ((σ.2 0 (23 + 19 * nc + 0)) + 1) (o_counts (σ.2 0) nc (False) 3))]) ⟨hx, hb, hml, hown, hts⟩ (met_X5_of l G hM nc 0 (show 23 + 19 * nc + 0 < 137 by omega)) (cwV 2 hts (lw_V q2740 q2742 qs59 q106 q2743) rfl rfl rfl (by decide +kernel) ⟨Nat.le_of_ble_eq_true rfl, Nat.le_of_ble_eq_true rfl⟩) (hv_preV hw pk_X5 hM.1) rfl rfl hl.1 rfl (lv_room (Nat.le_of_ble_eq_true rfl)) dX5_margin_41 ⟨Nat.le_of_ble_eq_true rfl, Nat.le_of_ble_eq_true rfl⟩) hw (fun H locs hw => ?_)
    refine lv_iload_n hx hb dX5_margin_44 rfl (lv_at hl 0 rfl) ?_
    refine hv_callir (va_runV (As := [.int (σ.2 0 (23 + 19 * nc + 0)), .int (o_counts (σ.2 0) nc (False) 3)]) (rest := [.int (o_dues (σ.2 0) ((σ.2 0 (23 + 19 * nc + 0)) + 1) (o_counts (σ.2 0) nc (False) 3))]) ⟨hx, hb, hml, hown, hts⟩ (met_X5_dues l G hM (σ.2 0 (23 + 19 * nc + 0)) (o_counts (σ.2 0) nc (False) 3) (hok)) (cwV 2 hts (lw_V q2800 q2802 qs70 q106 q2803) rfl rfl rfl (by decide +kernel) ⟨Nat.le_of_ble_eq_true rfl, Nat.le_of_ble_eq_true rfl⟩) (hv_preV hw pk_X5 hM.1) rfl rfl hl.1 rfl (lv_room (Nat.le_of_ble_eq_true rfl)) dX5_margin_45 ⟨Nat.le_of_ble_eq_true rfl, Nat.le_of_ble_eq_true rfl⟩) hw (fun H locs hw => ?_)
    refine lv_isub hx hb dX5_margin_48 ?_
    exact hret rfl hw ⟨by rw [if_pos c12, o_n_nI (show nc < 2 ^ 31 by omega)] <;> rfl, hM, hF⟩ (Nat.le_of_ble_eq_true rfl) (Nat.le_of_ble_eq_true rfl) dX5_margin_49
  · skip
    have c12 : ¬ ((0 ≤ c9 ∧ c9 ≤ σ.2 0 5 - 1) ∧ (True)) := b01_0.mp c12
    refine lv_iconst (v := 0) hx hb dX5_margin_15 (by decide) ?_
    exact hret rfl hw ⟨(if_neg c12).symm, hM, hF⟩ (Nat.le_of_ble_eq_true rfl) (Nat.le_of_ble_eq_true rfl) dX5_margin_16
set_option maxHeartbeats 400000 in
theorem met_X5_claimOf (l : Launch) (G : hG) {h : hp} {o : Nat} {ma : Nat → Nat} {σ : MS} (hM : isMod G h o ma σ) (c9 : Int32) (k : Int32) (pr : Prop) [Decidable pr] (hok : okI (σ.2 0)) : mo_Mi l G yX5_claimOf (ws_ yX5_claimOf cX5_claimOf 4 (Option.some Jvm.ClassFile.FieldType.int)) ({ frames := 2, cells := 0, slots := 0, locals := 44 } : Room) [.ref o, .int c9, .int k, .int (b01 pr)] h o ma (if (0 ≤ c9 ∧ c9 ≤ σ.2 0 5 - 1) ∧ (0 ≤ k ∧ k ≤ 2) then σ.2 0 (23 + 19 * o_n c9 + o_slot (o_n k) pr) else 0) (mo_st σ 15 (m_gv ((0 ≤ c9 ∧ c9 ≤ σ.2 0 5 - 1)) 1 ((0 ≤ k ∧ k ≤ 2)) 1)) := by
  refine hv_bi .int (Or.inl rfl) (own := RX5) (by decide +kernel) rfl (Nat.le_of_ble_eq_true rfl) (fun p e s m a below meth c ls Q hx hb hml hown hts hnm hret hw hl => ?_)
  have hl : lv_has ls 4 [(0, .ref o), (1, .int c9), (2, .int k), (3, .int (b01 pr))] := hl
  have hF : mo_fr o ma h h := mo_fr.rf
  have hmx : o_many (σ.2 0) ≤ 5 := hok.2.2.1
  have hpx : o_people (σ.2 0) ≤ 6 := hok.2.2.2.2.1
  refine lv_aload_n hx hb dX5_claimOf_0 rfl (lv_at hl 0 rfl) ?_
  refine lv_aload_n hx hb dX5_claimOf_1 rfl (lv_at hl 0 rfl) ?_
  refine lv_iload_n hx hb dX5_claimOf_2 rfl (lv_at hl 1 rfl) ?_
  refine hv_callir (va_runV (As := [.int c9]) (rest := [.ref o]) ⟨hx, hb, hml, hown, hts⟩ (met_X5_isCitizen l G hM c9 ) (cwV 1 hts (lw_V q2736 q2738 qs58 q106 q2739) rfl rfl rfl (by decide +kernel) ⟨Nat.le_of_ble_eq_true rfl, Nat.le_of_ble_eq_true rfl⟩) (hv_preV hw pk_X5 hM.1) rfl rfl hl.1 rfl (lv_room (Nat.le_of_ble_eq_true rfl)) dX5_claimOf_3 ⟨Nat.le_of_ble_eq_true rfl, Nat.le_of_ble_eq_true rfl⟩) hw (fun H locs hw => ?_)
  refine lv_iconst (v := 1) hx hb dX5_claimOf_6 (by decide) ?_
  refine lv_iload_n hx hb dX5_claimOf_7 rfl (lv_at hl 2 rfl) ?_
  refine hv_callir (va_runS (As := [.int k]) (rest := [.int 1, .int (b01 (0 ≤ c9 ∧ c9 ≤ σ.2 0 5 - 1)), .ref o]) ⟨hx, hb, hml, hown, hts⟩ (met_X5_isKind l G k ) (va_cwS 1 hts (lw_S q2721 q2722 q106 q2723) rfl rfl rfl (by decide +kernel) ⟨Nat.le_of_ble_eq_true rfl, Nat.le_of_ble_eq_true rfl⟩) (hv_preS hw) rfl rfl hl.1 rfl (lv_room (Nat.le_of_ble_eq_true rfl)) dX5_claimOf_8 ⟨Nat.le_of_ble_eq_true rfl, Nat.le_of_ble_eq_true rfl⟩) hw (fun H locs hw => ?_)
  refine lv_iconst (v := 1) hx hb dX5_claimOf_11 (by decide) ?_
  refine mo_calli (va_runV (As := [.int (b01 (0 ≤ c9 ∧ c9 ≤ σ.2 0 5 - 1)), .int 1, .int (b01 (0 ≤ k ∧ k ≤ 2)), .int 1]) (rest := []) ⟨hx, hb, hml, hown, hts⟩ (met_X5_goes l G hM (0 ≤ c9 ∧ c9 ≤ σ.2 0 5 - 1) 1 (0 ≤ k ∧ k ≤ 2) 1 (by decide) (fun _ => by decide)) (cwV 4 hts (lw_V q2825 q2827 qs75 q106 q2828) rfl rfl rfl (by decide +kernel) ⟨Nat.le_of_ble_eq_true rfl, Nat.le_of_ble_eq_true rfl⟩) (hv_preV hw pk_X5 hM.1) rfl rfl hl.1 rfl (lv_room (Nat.le_of_ble_eq_true rfl)) dX5_claimOf_12 ⟨Nat.le_of_ble_eq_true rfl, Nat.le_of_ble_eq_true rfl⟩) hw hF (fun hh H locs hM hF hw => ?_)
  refine lv_if_eq (tgt := 40) hx hb dX5_claimOf_15 (by decide) (fun c15 => ?_) (fun c15 => ?_)
  · skip
    have c15 : ¬ ((0 ≤ c9 ∧ c9 ≤ σ.2 0 5 - 1) ∧ (0 ≤ k ∧ k ≤ 2)) := b01_0.mp c15
    refine lv_iconst (v := 0) hx hb dX5_claimOf_40 (by decide) ?_
    exact hret rfl hw ⟨(if_neg c15).symm, hM, hF⟩ (Nat.le_of_ble_eq_true rfl) (Nat.le_of_ble_eq_true rfl) dX5_claimOf_41
  · skip
    have c15 : (0 ≤ c9 ∧ c9 ≤ σ.2 0 5 - 1) ∧ (0 ≤ k ∧ k ≤ 2) := b01_n.mp c15
    obtain ⟨nc, hnc, rfl⟩ := o_ix c15.1 (congrArg (· - 1) hok.2.2.2.1) (by omega)
    obtain ⟨nk, hnk, rfl⟩ := o_ix c15.2 (show (2 : Int32) = nI 3 - 1 by decide) (by omega)
    refine lv_iload_n hx hb dX5_claimOf_18 rfl (lv_at hl 3 rfl) ?_
    refine lv_if_eq (tgt := 31) hx hb dX5_claimOf_19 (by decide) (fun c19 => ?_) (fun c19 => ?_)
    · skip
      have c19 : ¬ (pr) := b01_0.mp c19
      have hsl : o_slot nk pr = 13 + 2 * nk + 1 := by unfold o_slot; rw [if_neg c19]
      refine lv_aload_n hx hb dX5_claimOf_31 rfl (lv_at hl 0 rfl) ?_
      refine lv_iload_n hx hb dX5_claimOf_32 rfl (lv_at hl 1 rfl) ?_
      refine lv_iload_n hx hb dX5_claimOf_33 rfl (lv_at hl 2 rfl) ?_
      refine hv_callir (va_runV (As := [.int (nI nc), .int (nI nk)]) (rest := []) ⟨hx, hb, hml, hown, hts⟩ (met_X5_unproved l G hM nc nk (show 23 + 19 * nc + (13 + 2 * nk + 1) < 137 by omega)) (cwV 2 hts (lw_V q2768 q2770 qs65 q106 q2771) rfl rfl rfl (by decide +kernel) ⟨Nat.le_of_ble_eq_true rfl, Nat.le_of_ble_eq_true rfl⟩) (hv_preV hw pk_X5 hM.1) rfl rfl hl.1 rfl (lv_room (Nat.le_of_ble_eq_true rfl)) dX5_claimOf_34 ⟨Nat.le_of_ble_eq_true rfl, Nat.le_of_ble_eq_true rfl⟩) hw (fun H locs hw => ?_)
      refine lv_goto (tgt := 41) hx hb dX5_claimOf_37 (by decide) ?_
      exact hret rfl hw ⟨by rw [if_pos c15, o_n_nI (show nc < 2 ^ 31 by omega), o_n_nI (show nk < 2 ^ 31 by omega)]; rw [hsl] <;> rfl, hM, hF⟩ (Nat.le_of_ble_eq_true rfl) (Nat.le_of_ble_eq_true rfl) dX5_claimOf_41
    · skip
      have c19 : pr := b01_n.mp c19
      have hsl : o_slot nk pr = 13 + 2 * nk := by unfold o_slot; rw [if_pos c19, Nat.add_zero]
      refine lv_aload_n hx hb dX5_claimOf_22 rfl (lv_at hl 0 rfl) ?_
      refine lv_iload_n hx hb dX5_claimOf_23 rfl (lv_at hl 1 rfl) ?_
      refine lv_iload_n hx hb dX5_claimOf_24 rfl (lv_at hl 2 rfl) ?_
      refine hv_callir (va_runV (As := [.int (nI nc), .int (nI nk)]) (rest := []) ⟨hx, hb, hml, hown, hts⟩ (met_X5_proved l G hM nc nk (show 23 + 19 * nc + (13 + 2 * nk) < 137 by omega)) (cwV 2 hts (lw_V q2764 q2766 qs64 q106 q2767) rfl rfl rfl (by decide +kernel) ⟨Nat.le_of_ble_eq_true rfl, Nat.le_of_ble_eq_true rfl⟩) (hv_preV hw pk_X5 hM.1) rfl rfl hl.1 rfl (lv_room (Nat.le_of_ble_eq_true rfl)) dX5_claimOf_25 ⟨Nat.le_of_ble_eq_true rfl, Nat.le_of_ble_eq_true rfl⟩) hw (fun H locs hw => ?_)
      refine lv_goto (tgt := 41) hx hb dX5_claimOf_28 (by decide) ?_
      exact hret rfl hw ⟨by rw [if_pos c15, o_n_nI (show nc < 2 ^ 31 by omega), o_n_nI (show nk < 2 ^ 31 by omega)]; rw [hsl] <;> rfl, hM, hF⟩ (Nat.le_of_ble_eq_true rfl) (Nat.le_of_ble_eq_true rfl) dX5_claimOf_41
set_option maxHeartbeats 400000 in
theorem met_X5_feed (l : Launch) (G : hG) {h : hp} {o : Nat} {ma : Nat → Nat} {σ : MS} (hM : isMod G h o ma σ) (x : Int32) (h11 : σ.1 11 = nI (o_n (σ.1 11)) ∧ o_n (σ.1 11) < 60) : mo_Mi l G yX5_feed (ws_ yX5_feed cX5_feed 2 (Option.some Jvm.ClassFile.FieldType.int)) ({ frames := 0, cells := 0, slots := 0, locals := 0 } : Room) [.ref o, .int x] h o ma (nI (o_n (σ.1 11) + 1)) (mo_st (mo_sa (mo_st σ 15 0) 10 (o_n (σ.1 11)) x) 11 (nI (o_n (σ.1 11) + 1))) := by
  refine hv_bi .int (Or.inl rfl) (own := RX5) (by decide +kernel) rfl (Nat.le_of_ble_eq_true rfl) (fun p e s m a below meth c ls Q hx hb hml hown hts hnm hret hw hl => ?_)
  have hl : lv_has ls 2 [(0, .ref o), (1, .int x)] := hl
  have hF : mo_fr o ma h h := mo_fr.rf
  have hn := h11.2
  have hne : ¬ nI (o_n (σ.1 11)) = 60 := fun z => absurd (cmp_eq (b := 60) z rfl rfl (by omega) (by omega)) (by omega)
  have hnl : nI (o_n (σ.1 11)) < 60 := nI_lt hn (by decide)
  refine lv_aload_n hx hb dX5_feed_0 rfl (lv_at hl 0 rfl) ?_
  refine lv_aload_n hx hb dX5_feed_1 rfl (lv_at hl 0 rfl) ?_
  refine mo_get hx hb hts hown hw hM 11 (by decide) q2565 rfl (v := .int (σ.1 11)) rfl dX5_feed_2 ?_
  refine lv_tope (y := nI (o_n (σ.1 11))) (h11.1) ?_
  refine lv_bipush (v := 60) hx hb dX5_feed_5 (by decide) ?_
  refine lv_icmp_ne (tgt := 14) hx hb dX5_feed_7 (by decide) (fun c7 => ?_) (fun c7 => absurd c7 (hne))
  refine lv_iconst (v := 0) hx hb dX5_feed_14 (by decide) ?_
  refine mo_put hx hb hts hown hw hM hF 15 (by decide) rfl q2569 rfl rfl rfl rfl dX5_feed_15 (fun hh H locs hM hF hw => ?_)
  refine lv_aload_n hx hb dX5_feed_18 rfl (lv_at hl 0 rfl) ?_
  refine mo_get hx hb hts hown hw hM 11 (by decide) q2565 rfl (v := .int (σ.1 11)) rfl dX5_feed_19 ?_
  refine lv_tope (y := nI (o_n (σ.1 11))) (h11.1) ?_
  refine lv_bipush (v := 60) hx hb dX5_feed_22 (by decide) ?_
  refine lv_icmp_ge (tgt := 47) hx hb dX5_feed_24 (by decide) (fun c24 => absurd c24 (Int32.not_le.mpr hnl)) (fun c24 => ?_)
  refine lv_aload_n hx hb dX5_feed_27 rfl (lv_at hl 0 rfl) ?_
  refine mo_get hx hb hts hown hw hM 10 (by decide) q2564 rfl (v := .ref (ma 10)) rfl dX5_feed_28 ?_
  refine lv_aload_n hx hb dX5_feed_31 rfl (lv_at hl 0 rfl) ?_
  refine mo_get hx hb hts hown hw hM 11 (by decide) q2565 rfl (v := .int (σ.1 11)) rfl dX5_feed_32 ?_
  refine lv_tope (y := nI (o_n (σ.1 11))) (h11.1) ?_
  refine lv_iload_n hx hb dX5_feed_35 rfl (lv_at hl 1 rfl) ?_
  refine mo_ast hx hb hw hM hF 10 rfl (j := (o_n (σ.1 11))) rfl (show o_n (σ.1 11) < 60 by omega) dX5_feed_36 (fun hh H locs hM hF hw => ?_)
  refine lv_aload_n hx hb dX5_feed_37 rfl (lv_at hl 0 rfl) ?_
  refine lv_dup hx hb dX5_feed_38 rfl ?_
  refine mo_get hx hb hts hown hw hM 11 (by decide) q2565 rfl (v := .int (σ.1 11)) rfl dX5_feed_39 ?_
  refine lv_tope (y := nI (o_n (σ.1 11))) (h11.1) ?_
  refine lv_iconst (v := 1) hx hb dX5_feed_42 (by decide) ?_
  refine lv_iadd hx hb dX5_feed_43 ?_
  refine lv_tope (y := nI (o_n (σ.1 11) + 1)) (by simp only [nI, Int32.ofNat_add, Int32.ofNat_mul] <;> rfl) ?_
  refine mo_put hx hb hts hown hw hM hF 11 (by decide) rfl q2565 rfl rfl rfl rfl dX5_feed_44 (fun hh H locs hM hF hw => ?_)
  refine lv_aload_n hx hb dX5_feed_47 rfl (lv_at hl 0 rfl) ?_
  refine mo_get hx hb hts hown hw hM 15 (by decide) q2569 rfl (v := .int 0) rfl dX5_feed_48 ?_
  refine lv_if_ne (tgt := 61) hx hb dX5_feed_51 (by decide) (fun c => absurd c (by decide)) (fun _ => ?_)
  refine lv_aload_n hx hb dX5_feed_54 rfl (lv_at hl 0 rfl) ?_
  refine mo_get hx hb hts hown hw hM 11 (by decide) q2565 rfl (v := .int (nI (o_n (σ.1 11) + 1))) rfl dX5_feed_55 ?_
  refine lv_goto (tgt := 62) hx hb dX5_feed_58 (by decide) ?_
  exact hret rfl hw ⟨rfl, hM, hF⟩ (Nat.le_of_ble_eq_true rfl) (Nat.le_of_ble_eq_true rfl) dX5_feed_62
set_option maxHeartbeats 400000 in
theorem met_X5_put (l : Launch) (G : hG) {h : hp} {o : Nat} {ma : Nat → Nat} {σ : MS} (hM : isMod G h o ma σ) (t9 : Nat) (x : Int32) (hy1 : t9 < 80) : mo_Mi l G yX5_put (ws_ yX5_put cX5_put 3 (Option.some Jvm.ClassFile.FieldType.int)) ({ frames := 0, cells := 0, slots := 0, locals := 0 } : Room) [.ref o, .int (nI t9), .int x] h o ma (nI (t9 + 1)) (mo_sa σ 13 t9 x) := by
  refine hv_bi .int (Or.inl rfl) (own := RX5) (by decide +kernel) rfl (Nat.le_of_ble_eq_true rfl) (fun p e s m a below meth c ls Q hx hb hml hown hts hnm hret hw hl => ?_)
  have hl : lv_has ls 3 [(0, .ref o), (1, .int (nI t9)), (2, .int x)] := hl
  have hF : mo_fr o ma h h := mo_fr.rf
  refine lv_aload_n hx hb dX5_put_0 rfl (lv_at hl 0 rfl) ?_
  refine mo_get hx hb hts hown hw hM 13 (by decide) q2567 rfl (v := .ref (ma 13)) rfl dX5_put_1 ?_
  refine lv_iload_n hx hb dX5_put_4 rfl (lv_at hl 1 rfl) ?_
  refine lv_iload_n hx hb dX5_put_5 rfl (lv_at hl 2 rfl) ?_
  refine mo_ast hx hb hw hM hF 13 rfl (j := t9) rfl (show t9 < 80 by omega) dX5_put_6 (fun hh H locs hM hF hw => ?_)
  refine lv_iload_n hx hb dX5_put_7 rfl (lv_at hl 1 rfl) ?_
  refine lv_iconst (v := 1) hx hb dX5_put_8 (by decide) ?_
  refine lv_iadd hx hb dX5_put_9 ?_
  refine lv_tope (y := nI (t9 + 1)) (by simp only [nI, Int32.ofNat_add, Int32.ofNat_mul] <;> rfl) ?_
  exact hret rfl hw ⟨rfl, hM, hF⟩ (Nat.le_of_ble_eq_true rfl) (Nat.le_of_ble_eq_true rfl) dX5_put_10
set_option maxHeartbeats 400000 in
theorem met_X5_faultPosition (l : Launch) (G : hG) {h : hp} {o : Nat} {ma : Nat → Nat} {σ : MS} (hM : isMod G h o ma σ)  : mo_Mi l G yX5_faultPosition (ws_ yX5_faultPosition cX5_faultPosition 1 (Option.some Jvm.ClassFile.FieldType.int)) ({ frames := 0, cells := 0, slots := 0, locals := 0 } : Room) [.ref o] h o ma (if σ.1 12 = -1 then 0 else σ.1 12) (mo_st σ 15 (b01 (σ.1 12 = -1))) := by
  refine hv_bi .int (Or.inl rfl) (own := RX5) (by decide +kernel) rfl (Nat.le_of_ble_eq_true rfl) (fun p e s m a below meth c ls Q hx hb hml hown hts hnm hret hw hl => ?_)
  have hl : lv_has ls 1 [(0, .ref o)] := hl
  have hF : mo_fr o ma h h := mo_fr.rf
  refine lv_aload_n hx hb dX5_faultPosition_0 rfl (lv_at hl 0 rfl) ?_
  refine lv_aload_n hx hb dX5_faultPosition_1 rfl (lv_at hl 0 rfl) ?_
  refine mo_get hx hb hts hown hw hM 12 (by decide) q2566 rfl (v := .int (σ.1 12)) rfl dX5_faultPosition_2 ?_
  refine lv_iconst (v := (-1)) hx hb dX5_faultPosition_5 (by decide) ?_
  refine lv_mat1 (P := (σ.1 12) = (-1)) (j := 14) (fun k1 k2 => lv_icmp_ne (tgt := 13) hx hb dX5_faultPosition_6 (by decide) (fun c => lv_iconst (v := 0) hx hb dX5_faultPosition_13 (by decide) (k2 c)) (fun c => lv_iconst (v := 1) hx hb dX5_faultPosition_9 (by decide) (lv_goto (tgt := 14) hx hb dX5_faultPosition_10 (by decide) (k1 c)))) ?_
  refine mo_put hx hb hts hown hw hM hF 15 (by decide) rfl q2569 rfl rfl rfl rfl dX5_faultPosition_14 (fun hh H locs hM hF hw => ?_)
  refine lv_aload_n hx hb dX5_faultPosition_17 rfl (lv_at hl 0 rfl) ?_
  refine mo_get hx hb hts hown hw hM 12 (by decide) q2566 rfl (v := .int (σ.1 12)) rfl dX5_faultPosition_18 ?_
  refine lv_iconst (v := (-1)) hx hb dX5_faultPosition_21 (by decide) ?_
  refine lv_icmp_ne (tgt := 29) hx hb dX5_faultPosition_22 (by decide) (fun c22 => ?_) (fun c22 => ?_)
  · skip
    refine lv_aload_n hx hb dX5_faultPosition_29 rfl (lv_at hl 0 rfl) ?_
    refine mo_get hx hb hts hown hw hM 12 (by decide) q2566 rfl (v := .int (σ.1 12)) rfl dX5_faultPosition_30 ?_
    exact hret rfl hw ⟨(if_neg c22).symm, hM, hF⟩ (Nat.le_of_ble_eq_true rfl) (Nat.le_of_ble_eq_true rfl) dX5_faultPosition_33
  · skip
    refine lv_iconst (v := 0) hx hb dX5_faultPosition_25 (by decide) ?_
    refine lv_goto (tgt := 33) hx hb dX5_faultPosition_26 (by decide) ?_
    exact hret rfl hw ⟨(if_pos c22).symm, hM, hF⟩ (Nat.le_of_ble_eq_true rfl) (Nat.le_of_ble_eq_true rfl) dX5_faultPosition_33
set_option maxHeartbeats 400000 in
theorem met_X5_save (l : Launch) (G : hG) {h : hp} {o : Nat} {ma : Nat → Nat} {σ : MS} (hM : isMod G h o ma σ)  : mo_Mi l G yX5_save (ws_ yX5_save cX5_save 1 (Option.some Jvm.ClassFile.FieldType.int)) ({ frames := 1, cells := 0, slots := 0, locals := 24 } : Room) [.ref o] h o ma (σ.2 0 0) (mo_st (mo_cp (mo_st σ 15 0) 0 2 0 0) 4 1) := by
  refine hv_bi .int (Or.inl rfl) (own := RX5) (by decide +kernel) rfl (Nat.le_of_ble_eq_true rfl) (fun p e s m a below meth c ls Q hx hb hml hown hts hnm hret hw hl => ?_)
  have hl : lv_has ls 1 [(0, .ref o)] := hl
  have hF : mo_fr o ma h h := mo_fr.rf
  refine lv_aload_n hx hb dX5_save_0 rfl (lv_at hl 0 rfl) ?_
  refine lv_iconst (v := 0) hx hb dX5_save_1 (by decide) ?_
  refine mo_put hx hb hts hown hw hM hF 15 (by decide) rfl q2569 rfl rfl rfl rfl dX5_save_2 (fun hh H locs hM hF hw => ?_)
  refine lv_aload_n hx hb dX5_save_5 rfl (lv_at hl 0 rfl) ?_
  refine mo_get hx hb hts hown hw hM 0 (by decide) q2554 rfl (v := .ref (ma 0)) rfl dX5_save_6 ?_
  refine lv_iconst (v := 0) hx hb dX5_save_9 (by decide) ?_
  refine lv_aload_n hx hb dX5_save_10 rfl (lv_at hl 0 rfl) ?_
  refine mo_get hx hb hts hown hw hM 2 (by decide) q2556 rfl (v := .ref (ma 2)) rfl dX5_save_11 ?_
  refine lv_iconst (v := 0) hx hb dX5_save_14 (by decide) ?_
  refine mo_callv (va_runS (As := [.ref (ma 0), .int 0, .ref (ma 2), .int 0]) (rest := []) ⟨hx, hb, hml, hown, hts⟩ (met_X5_copies l G hM 0 2 0 0 rfl rfl (by decide) (show 0 + 137 ≤ 137 by omega) (show 0 + 137 ≤ 137 by omega) (by decide) (by decide)) (va_cwS 4 hts (lw_S q2639 q2640 q106 q2641) rfl rfl rfl (by decide +kernel) ⟨Nat.le_of_ble_eq_true rfl, Nat.le_of_ble_eq_true rfl⟩) (hv_preS hw) rfl rfl hl.1 rfl (lv_room (Nat.le_of_ble_eq_true rfl)) dX5_save_15 ⟨Nat.le_of_ble_eq_true rfl, Nat.le_of_ble_eq_true rfl⟩) hw hF (fun hh H locs hM hF hw => ?_)
  refine lv_aload_n hx hb dX5_save_18 rfl (lv_at hl 0 rfl) ?_
  refine lv_iconst (v := 1) hx hb dX5_save_19 (by decide) ?_
  refine mo_put hx hb hts hown hw hM hF 4 (by decide) rfl q2558 rfl rfl rfl rfl dX5_save_20 (fun hh H locs hM hF hw => ?_)
  refine lv_aload_n hx hb dX5_save_23 rfl (lv_at hl 0 rfl) ?_
  refine mo_get hx hb hts hown hw hM 0 (by decide) q2554 rfl (v := .ref (ma 0)) rfl dX5_save_24 ?_
  refine lv_iconst (v := 0) hx hb dX5_save_27 (by decide) ?_
  refine mo_ald hx hb hw hM 0 rfl (j := 0) rfl (show 0 < 137 by omega) dX5_save_28 ?_
  exact hret rfl hw ⟨rfl, hM, hF⟩ (Nat.le_of_ble_eq_true rfl) (Nat.le_of_ble_eq_true rfl) dX5_save_29
