set_option maxRecDepth 100000
set_option maxHeartbeats 400000 in
theorem met_X5_hinders (l : Launch) (G : hG) {h : hp} {o : Nat} {ma : Nat → Nat} {σ : MS} (hM : isMod G h o ma σ) (P : Prop) [Decidable P] (by9 : Int32) (its : Int32) : mo_Mv l G yX5_hinders (ws_ yX5_hinders cX5_hinders 4 (Option.none : Option Jvm.ClassFile.FieldType)) ({ frames := 0, cells := 0, slots := 0, locals := 0 } : Room) [.ref o, .int (b01 P), .int by9, .int its] h o ma (mo_hin σ P by9 its) := by
  refine hv_bv (own := RX5) (by decide +kernel) rfl (Nat.le_of_ble_eq_true rfl) (fun p e s m a below meth c ls Q hx hb hml hown hts hnm hret hw hl => ?_)
  have hl : lv_has ls 4 [(0, .ref o), (1, .int (b01 P)), (2, .int by9), (3, .int its)] := hl
  have hF : mo_fr o ma h h := mo_fr.rf
  refine lv_iload_n hx hb dX5_hinders_0 rfl (lv_at hl 1 rfl) ?_
  refine lv_if_eq (tgt := 21) hx hb dX5_hinders_1 (by decide) (fun c1 => ?_) (fun c1 => ?_)
  · skip
    have c1 : ¬ (P) := b01_0.mp c1
    exact hret hw ⟨by rw [mo_hin_f c1]; exact hM, hF⟩ (Nat.le_of_ble_eq_true rfl) (Nat.le_of_ble_eq_true rfl) dX5_hinders_21
  · skip
    have c1 : P := b01_n.mp c1
    refine lv_aload_n hx hb dX5_hinders_4 rfl (lv_at hl 0 rfl) ?_
    refine mo_get hx hb hts hown hw hM 16 (by decide) q2570 rfl (v := .int (σ.1 16)) rfl dX5_hinders_5 ?_
    refine lv_if_ne (tgt := 21) hx hb dX5_hinders_8 (by decide) (fun c8 => ?_) (fun c8 => ?_)
    · skip
      exact hret hw ⟨by rw [mo_hin_r c8]; exact hM, hF⟩ (Nat.le_of_ble_eq_true rfl) (Nat.le_of_ble_eq_true rfl) dX5_hinders_21
    · skip
      refine lv_aload_n hx hb dX5_hinders_11 rfl (lv_at hl 0 rfl) ?_
      refine lv_iload_n hx hb dX5_hinders_12 rfl (lv_at hl 2 rfl) ?_
      refine mo_put hx hb hts hown hw hM hF 16 (by decide) rfl q2570 rfl rfl rfl rfl dX5_hinders_13 (fun hh H locs hM hF hw => ?_)
      refine lv_aload_n hx hb dX5_hinders_16 rfl (lv_at hl 0 rfl) ?_
      refine lv_iload_n hx hb dX5_hinders_17 rfl (lv_at hl 3 rfl) ?_
      refine mo_put hx hb hts hown hw hM hF 17 (by decide) rfl q2571 rfl rfl rfl rfl dX5_hinders_18 (fun hh H locs hM hF hw => ?_)
      exact hret hw ⟨by rw [mo_hin_t c1 c8]; exact hM, hF⟩ (Nat.le_of_ble_eq_true rfl) (Nat.le_of_ble_eq_true rfl) dX5_hinders_21
set_option maxHeartbeats 400000 in
theorem met_X5_hindersRange (l : Launch) (G : hG) {h : hp} {o : Nat} {ma : Nat → Nat} {σ : MS} (hM : isMod G h o ma σ) (v : Int32) (lo : Int32) (hi : Int32) : mo_Mv l G yX5_hindersRange (ws_ yX5_hindersRange cX5_hindersRange 4 (Option.none : Option Jvm.ClassFile.FieldType)) ({ frames := 1, cells := 0, slots := 0, locals := 23 } : Room) [.ref o, .int v, .int lo, .int hi] h o ma (mo_hin σ (¬ (lo ≤ v ∧ v ≤ hi)) 3 v) := by
  refine hv_bv (own := RX5) (by decide +kernel) rfl (Nat.le_of_ble_eq_true rfl) (fun p e s m a below meth c ls Q hx hb hml hown hts hnm hret hw hl => ?_)
  have hl : lv_has ls 4 [(0, .ref o), (1, .int v), (2, .int lo), (3, .int hi)] := hl
  have hF : mo_fr o ma h h := mo_fr.rf
  refine lv_aload_n hx hb dX5_hindersRange_0 rfl (lv_at hl 0 rfl) ?_
  refine lv_iload_n hx hb dX5_hindersRange_1 rfl (lv_at hl 1 rfl) ?_
  refine lv_iload_n hx hb dX5_hindersRange_2 rfl (lv_at hl 2 rfl) ?_
  refine lv_iload_n hx hb dX5_hindersRange_3 rfl (lv_at hl 3 rfl) ?_
  refine hv_callir (va_runS (As := [.int v, .int lo, .int hi]) (rest := [.ref o]) ⟨hx, hb, hml, hown, hts⟩ (met_X5_isIn l G v lo hi ) (va_cwS 3 hts (lw_S q2666 q2667 q106 q2668) rfl rfl rfl (by decide +kernel) ⟨Nat.le_of_ble_eq_true rfl, Nat.le_of_ble_eq_true rfl⟩) (hv_preS hw) rfl rfl hl.1 rfl (lv_room (Nat.le_of_ble_eq_true rfl)) dX5_hindersRange_4 ⟨Nat.le_of_ble_eq_true rfl, Nat.le_of_ble_eq_true rfl⟩) hw (fun H locs hw => ?_)
  refine lv_mat1 (P := (b01 (lo ≤ v ∧ v ≤ hi)) = 0) (j := 15) (fun k1 k2 => lv_if_ne (tgt := 14) hx hb dX5_hindersRange_7 (by decide) (fun c => lv_iconst (v := 0) hx hb dX5_hindersRange_14 (by decide) (k2 c)) (fun c => lv_iconst (v := 1) hx hb dX5_hindersRange_10 (by decide) (lv_goto (tgt := 15) hx hb dX5_hindersRange_11 (by decide) (k1 c)))) ?_
  refine lv_tope (y := b01 (¬ (lo ≤ v ∧ v ≤ hi))) (b01_c b01_0) ?_
  refine lv_iconst (v := 3) hx hb dX5_hindersRange_15 (by decide) ?_
  refine lv_iload_n hx hb dX5_hindersRange_16 rfl (lv_at hl 1 rfl) ?_
  refine mo_callv (va_runV (As := [.int (b01 (¬ (lo ≤ v ∧ v ≤ hi))), .int 3, .int v]) (rest := []) ⟨hx, hb, hml, hown, hts⟩ (met_X5_hinders l G hM (¬ (lo ≤ v ∧ v ≤ hi)) 3 v ) (cwV 3 hts (lw_V q2669 q2671 qs48 q106 q2672) rfl rfl rfl (by decide +kernel) ⟨Nat.le_of_ble_eq_true rfl, Nat.le_of_ble_eq_true rfl⟩) (hv_preV hw pk_X5 hM.1) rfl rfl hl.1 rfl (lv_room (Nat.le_of_ble_eq_true rfl)) dX5_hindersRange_17 ⟨Nat.le_of_ble_eq_true rfl, Nat.le_of_ble_eq_true rfl⟩) hw hF (fun hh H locs hM hF hw => ?_)
  exact hret hw ⟨hM, hF⟩ (Nat.le_of_ble_eq_true rfl) (Nat.le_of_ble_eq_true rfl) dX5_hindersRange_20
set_option maxHeartbeats 400000 in
theorem met_X5_copies (l : Launch) (G : hG) {h : hp} {o : Nat} {ma : Nat → Nat} {σ : MS} (hM : isMod G h o ma σ) (i j fr to : Nat) (hi : mo_isA i = true) (hj : mo_isA j = true) (hij : i ≠ j) (hi2 : fr + 137 ≤ mo_len i) (hj2 : to + 137 ≤ mo_len j) (hi3 : mo_len i ≤ 1096) (hj3 : mo_len j ≤ 1096) : mo_Mv l G yX5_copies (ws_ yX5_copies cX5_copies 5 (Option.none : Option Jvm.ClassFile.FieldType)) (({ frames := 0, cells := 0, slots := 0, locals := 0 } : Room)) [.ref (ma i), .int (nI fr), .ref (ma j), .int (nI to)] h o ma (mo_cp σ i j fr to) := by
  refine hv_bv (own := RX5) (by decide +kernel) rfl (Nat.le_of_ble_eq_true rfl) (fun p e s m a below meth c ls Q hx hb hml hown hts hnm hret hw hl => ?_)
  have hl : lv_has ls 5 [(0, .ref (ma i)), (1, .int (nI fr)), (2, .ref (ma j)), (3, .int (nI to))] := hl
  have hF : mo_fr o ma h h := mo_fr.rf
  have hM : isMod G h o ma (mo_cpk σ i j fr to 0) := by rw [mo_cpk_0]; exact hM
  refine lv_iconst (v := 0) hx hb dX5_copies_0 (by decide) ?_
  refine lv_istore (lv' := [(4, .int 0), (0, .ref (ma i)), (1, .int (nI fr)), (2, .ref (ma j)), (3, .int (nI to))]) hx hb dX5_copies_1 hl (by decide) rfl (fun ls hl => ?_)
  have LP3 : ∀ (n : Nat) (k : Nat) (hh : hp) (H : Heap) (locs : List Loc) (ls : Array Slot), 137 - k < n → k ≤ 137 → isMod G hh o ma (mo_cpk σ i j fr to k) → mo_fr o ma h hh → hv_W G s hh H locs → lv_has ls 5 [(4, .int (nI k)), (0, .ref (ma i)), (1, .int (nI fr)), (2, .ref (ma j)), (3, .int (nI to))] → W p l e ({ frames := 0, cells := 0, slots := 0, locals := 0 } : Room) s m a below meth c H locs 0 0 Q (F0 m 3 ls []) := by
    intro n
    induction n with
    | zero => exact fun k hh H locs ls hmu => absurd hmu (Nat.not_lt_zero _)
    | succ n ih =>
      intro k hh H locs ls hmu hkk hM hF hw hl
      refine lv_iload hx hb dX5_copies_3 (lv_at hl 0 rfl) ?_
      refine lv_sipush (v := 137) hx hb dX5_copies_5 (by decide) ?_
      refine lv_icmp_ge (tgt := 29) hx hb dX5_copies_8 (by decide) (fun c8 => ?_) (fun c8 => ?_)
      · skip
        have hxk : 137 ≤ k := cmp_le c8 rfl rfl (by omega) (by omega)
        obtain rfl : k = 137 := by omega
        exact hret hw ⟨hM, hF⟩ (Nat.le_of_ble_eq_true rfl) (Nat.le_of_ble_eq_true rfl) dX5_copies_29
      · skip
        have hxk : k < 137 := cmp_nle c8 rfl rfl (by omega) (by omega)
        refine lv_aload_n hx hb dX5_copies_11 rfl (lv_at hl 3 rfl) ?_
        refine lv_iload_n hx hb dX5_copies_12 rfl (lv_at hl 4 rfl) ?_
        refine lv_iload hx hb dX5_copies_13 (lv_at hl 0 rfl) ?_
        refine lv_iadd hx hb dX5_copies_15 ?_
        refine lv_tope (y := nI (to + k)) (by simp only [nI, Int32.ofNat_add, Int32.ofNat_mul] <;> rfl) ?_
        refine lv_aload_n hx hb dX5_copies_16 rfl (lv_at hl 1 rfl) ?_
        refine lv_iload_n hx hb dX5_copies_17 rfl (lv_at hl 2 rfl) ?_
        refine lv_iload hx hb dX5_copies_18 (lv_at hl 0 rfl) ?_
        refine lv_iadd hx hb dX5_copies_20 ?_
        refine lv_tope (y := nI (fr + k)) (by simp only [nI, Int32.ofNat_add, Int32.ofNat_mul] <;> rfl) ?_
        refine mo_ald hx hb hw hM i hi (j := (fr + k)) rfl (by omega) dX5_copies_21 ?_
        refine lv_tope (y := σ.2 i (fr + k)) (mo_cpk_src hij ..) ?_
        refine mo_ast hx hb hw hM hF j hj (j := (to + k)) rfl (by omega) dX5_copies_22 (fun hh H locs hM hF hw => ?_)
        rw [mo_cpk_s] at hM
        refine lv_iinc (v := nI (k + 1)) (lv' := [(4, .int (nI (k + 1))), (0, .ref (ma i)), (1, .int (nI fr)), (2, .ref (ma j)), (3, .int (nI to))]) hx hb dX5_copies_23 hl (k := 0) rfl (by simp only [nI, Int32.ofNat_add] <;> rfl) (by decide) rfl (fun ls hl => ?_)
        refine lv_goto (tgt := 3) hx hb dX5_copies_26 (by decide) ?_
        exact ih (k + 1) _ _ _ _ (by omega) (by omega) hM hF hw (lv_sub hl [0, 1, 2, 3, 4] rfl)
  exact LP3 _ 0 _ _ _ _ (Nat.lt_succ_self _) (by omega) hM hF hw (lv_sub hl [0, 1, 2, 3, 4] rfl)
set_option maxHeartbeats 400000 in
theorem met_X5_begins (l : Launch) (G : hG) {h : hp} {o : Nat} {ma : Nat → Nat} {σ : MS} (hM : isMod G h o ma σ)  : mo_Mv l G yX5_begins (ws_ yX5_begins cX5_begins 1 (Option.none : Option Jvm.ClassFile.FieldType)) ({ frames := 1, cells := 0, slots := 0, locals := 24 } : Room) [.ref o] h o ma (m_beg σ) := by
  refine hv_bv (own := RX5) (by decide +kernel) rfl (Nat.le_of_ble_eq_true rfl) (fun p e s m a below meth c ls Q hx hb hml hown hts hnm hret hw hl => ?_)
  have hl : lv_has ls 1 [(0, .ref o)] := hl
  have hF : mo_fr o ma h h := mo_fr.rf
  refine lv_aload_n hx hb dX5_begins_0 rfl (lv_at hl 0 rfl) ?_
  refine mo_get hx hb hts hown hw hM 0 (by decide) q2554 rfl (v := .ref (ma 0)) rfl dX5_begins_1 ?_
  refine lv_iconst (v := 0) hx hb dX5_begins_4 (by decide) ?_
  refine lv_aload_n hx hb dX5_begins_5 rfl (lv_at hl 0 rfl) ?_
  refine mo_get hx hb hts hown hw hM 1 (by decide) q2555 rfl (v := .ref (ma 1)) rfl dX5_begins_6 ?_
  refine lv_iconst (v := 0) hx hb dX5_begins_9 (by decide) ?_
  refine mo_callv (va_runS (As := [.ref (ma 0), .int 0, .ref (ma 1), .int 0]) (rest := []) ⟨hx, hb, hml, hown, hts⟩ (met_X5_copies l G hM 0 1 0 0 rfl rfl (by decide) (show 0 + 137 ≤ 137 by omega) (show 0 + 137 ≤ 137 by omega) (by decide) (by decide)) (va_cwS 4 hts (lw_S q2639 q2640 q106 q2641) rfl rfl rfl (by decide +kernel) ⟨Nat.le_of_ble_eq_true rfl, Nat.le_of_ble_eq_true rfl⟩) (hv_preS hw) rfl rfl hl.1 rfl (lv_room (Nat.le_of_ble_eq_true rfl)) dX5_begins_10 ⟨Nat.le_of_ble_eq_true rfl, Nat.le_of_ble_eq_true rfl⟩) hw hF (fun hh H locs hM hF hw => ?_)
  refine lv_aload_n hx hb dX5_begins_13 rfl (lv_at hl 0 rfl) ?_
  refine lv_iconst (v := 0) hx hb dX5_begins_14 (by decide) ?_
  refine mo_put hx hb hts hown hw hM hF 16 (by decide) rfl q2570 rfl rfl rfl rfl dX5_begins_15 (fun hh H locs hM hF hw => ?_)
  refine lv_aload_n hx hb dX5_begins_18 rfl (lv_at hl 0 rfl) ?_
  refine lv_iconst (v := 0) hx hb dX5_begins_19 (by decide) ?_
  refine mo_put hx hb hts hown hw hM hF 15 (by decide) rfl q2569 rfl rfl rfl rfl dX5_begins_20 (fun hh H locs hM hF hw => ?_)
  exact hret hw ⟨hM, hF⟩ (Nat.le_of_ble_eq_true rfl) (Nat.le_of_ble_eq_true rfl) dX5_begins_23
