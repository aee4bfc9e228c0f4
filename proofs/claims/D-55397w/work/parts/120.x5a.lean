set_option maxRecDepth 100000
set_option maxHeartbeats 400000 in
theorem met_X5_isIn (l : Launch) (G : hG) {h : hp} (v : Int32) (lo : Int32) (hi : Int32) : mo_Ri l G yX5_isIn (ws_ yX5_isIn cX5_isIn 3 (Option.some Jvm.ClassFile.FieldType.boolean)) ({ frames := 0, cells := 0, slots := 0, locals := 0 } : Room) [.int v, .int lo, .int hi] h (b01 (lo ≤ v ∧ v ≤ hi)) := by
  refine hv_bi .boolean (Or.inr (Or.inl rfl)) (own := RX5) (by decide +kernel) rfl (Nat.le_of_ble_eq_true rfl) (fun p e s m a below meth c ls Q hx hb hml hown hts hnm hret hw hl => ?_)
  have hl : lv_has ls 3 [(0, .int v), (1, .int lo), (2, .int hi)] := hl
  refine lv_iload_n hx hb dX5_isIn_0 rfl (lv_at hl 0 rfl) ?_
  refine lv_iload_n hx hb dX5_isIn_1 rfl (lv_at hl 1 rfl) ?_
  refine lv_icmp_lt (tgt := 14) hx hb dX5_isIn_2 (by decide) (fun c2 => ?_) (fun c2 => ?_)
  · skip
    refine lv_iconst (v := 0) hx hb dX5_isIn_14 (by decide) ?_
    exact hret rfl hw ⟨(b01_f (fun z => absurd z.1 (Int32.not_le.mpr c2))).symm, rfl⟩ (Nat.le_of_ble_eq_true rfl) (Nat.le_of_ble_eq_true rfl) dX5_isIn_15
  · skip
    refine lv_iload_n hx hb dX5_isIn_5 rfl (lv_at hl 0 rfl) ?_
    refine lv_iload_n hx hb dX5_isIn_6 rfl (lv_at hl 2 rfl) ?_
    refine lv_mat0 (P := hi < v) (j := 15) (fun k1 k2 => lv_icmp_gt (tgt := 14) hx hb dX5_isIn_7 (by decide) (fun c => lv_iconst (v := 0) hx hb dX5_isIn_14 (by decide) (k1 c)) (fun c => lv_iconst (v := 1) hx hb dX5_isIn_10 (by decide) (lv_goto (tgt := 15) hx hb dX5_isIn_11 (by decide) (k2 c)))) ?_
    exact hret (b01_z _) hw ⟨b01_c ⟨fun z => ⟨Int32.not_lt.mp c2, Int32.not_lt.mp z⟩, fun z => Int32.not_lt.mpr z.2⟩, rfl⟩ (Nat.le_of_ble_eq_true rfl) (Nat.le_of_ble_eq_true rfl) dX5_isIn_15
set_option maxHeartbeats 400000 in
theorem met_X5_thrown (l : Launch) (G : hG) {h : hp} {o : Nat} {ma : Nat → Nat} {σ : MS} (hM : isMod G h o ma σ)  : mo_Ri l G yX5_thrown (ws_ yX5_thrown cX5_thrown 1 (Option.some Jvm.ClassFile.FieldType.int)) ({ frames := 0, cells := 0, slots := 0, locals := 0 } : Room) [.ref o] h (σ.1 15) := by
  refine hv_bi .int (Or.inl rfl) (own := RX5) (by decide +kernel) rfl (Nat.le_of_ble_eq_true rfl) (fun p e s m a below meth c ls Q hx hb hml hown hts hnm hret hw hl => ?_)
  have hl : lv_has ls 1 [(0, .ref o)] := hl
  refine lv_aload_n hx hb dX5_thrown_0 rfl (lv_at hl 0 rfl) ?_
  refine mo_get hx hb hts hown hw hM 15 (by decide) q2569 rfl (v := .int (σ.1 15)) rfl dX5_thrown_1 ?_
  exact hret rfl hw ⟨rfl, rfl⟩ (Nat.le_of_ble_eq_true rfl) (Nat.le_of_ble_eq_true rfl) dX5_thrown_4
set_option maxHeartbeats 400000 in
theorem met_X5_edge (l : Launch) (G : hG) {h : hp} {o : Nat} {ma : Nat → Nat} {σ : MS} (hM : isMod G h o ma σ) (b : Nat) (hy1 : 13 + 2 * b < 137) : mo_Ri l G yX5_edge (ws_ yX5_edge cX5_edge 2 (Option.some Jvm.ClassFile.FieldType.int)) ({ frames := 0, cells := 0, slots := 0, locals := 0 } : Room) [.ref o, .int (nI b)] h (σ.2 0 (13 + 2 * b)) := by
  refine hv_bi .int (Or.inl rfl) (own := RX5) (by decide +kernel) rfl (Nat.le_of_ble_eq_true rfl) (fun p e s m a below meth c ls Q hx hb hml hown hts hnm hret hw hl => ?_)
  have hl : lv_has ls 2 [(0, .ref o), (1, .int (nI b))] := hl
  refine lv_aload_n hx hb dX5_edge_0 rfl (lv_at hl 0 rfl) ?_
  refine mo_get hx hb hts hown hw hM 0 (by decide) q2554 rfl (v := .ref (ma 0)) rfl dX5_edge_1 ?_
  refine lv_bipush (v := 13) hx hb dX5_edge_4 (by decide) ?_
  refine lv_iconst (v := 2) hx hb dX5_edge_6 (by decide) ?_
  refine lv_iload_n hx hb dX5_edge_7 rfl (lv_at hl 1 rfl) ?_
  refine lv_imul hx hb dX5_edge_8 ?_
  refine lv_tope (y := nI (2 * b)) (by simp only [nI, Int32.ofNat_add, Int32.ofNat_mul] <;> rfl) ?_
  refine lv_iadd hx hb dX5_edge_9 ?_
  refine lv_tope (y := nI (13 + 2 * b)) (by simp only [nI, Int32.ofNat_add, Int32.ofNat_mul] <;> rfl) ?_
  refine mo_ald hx hb hw hM 0 rfl (j := (13 + 2 * b)) rfl (show 13 + 2 * b < 137 by omega) dX5_edge_10 ?_
  exact hret rfl hw ⟨rfl, rfl⟩ (Nat.le_of_ble_eq_true rfl) (Nat.le_of_ble_eq_true rfl) dX5_edge_11
set_option maxHeartbeats 400000 in
theorem met_X5_rateOf (l : Launch) (G : hG) {h : hp} {o : Nat} {ma : Nat → Nat} {σ : MS} (hM : isMod G h o ma σ) (b : Nat) (hy1 : 13 + 2 * b + 1 < 137) : mo_Ri l G yX5_rateOf (ws_ yX5_rateOf cX5_rateOf 2 (Option.some Jvm.ClassFile.FieldType.int)) ({ frames := 0, cells := 0, slots := 0, locals := 0 } : Room) [.ref o, .int (nI b)] h (σ.2 0 (13 + 2 * b + 1)) := by
  refine hv_bi .int (Or.inl rfl) (own := RX5) (by decide +kernel) rfl (Nat.le_of_ble_eq_true rfl) (fun p e s m a below meth c ls Q hx hb hml hown hts hnm hret hw hl => ?_)
  have hl : lv_has ls 2 [(0, .ref o), (1, .int (nI b))] := hl
  refine lv_aload_n hx hb dX5_rateOf_0 rfl (lv_at hl 0 rfl) ?_
  refine mo_get hx hb hts hown hw hM 0 (by decide) q2554 rfl (v := .ref (ma 0)) rfl dX5_rateOf_1 ?_
  refine lv_bipush (v := 13) hx hb dX5_rateOf_4 (by decide) ?_
  refine lv_iconst (v := 2) hx hb dX5_rateOf_6 (by decide) ?_
  refine lv_iload_n hx hb dX5_rateOf_7 rfl (lv_at hl 1 rfl) ?_
  refine lv_imul hx hb dX5_rateOf_8 ?_
  refine lv_tope (y := nI (2 * b)) (by simp only [nI, Int32.ofNat_add, Int32.ofNat_mul] <;> rfl) ?_
  refine lv_iadd hx hb dX5_rateOf_9 ?_
  refine lv_tope (y := nI (13 + 2 * b)) (by simp only [nI, Int32.ofNat_add, Int32.ofNat_mul] <;> rfl) ?_
  refine lv_iconst (v := 1) hx hb dX5_rateOf_10 (by decide) ?_
  refine lv_iadd hx hb dX5_rateOf_11 ?_
  refine lv_tope (y := nI (13 + 2 * b + 1)) (by simp only [nI, Int32.ofNat_add, Int32.ofNat_mul] <;> rfl) ?_
  refine mo_ald hx hb hw hM 0 rfl (j := (13 + 2 * b + 1)) rfl (show 13 + 2 * b + 1 < 137 by omega) dX5_rateOf_12 ?_
  exact hret rfl hw ⟨rfl, rfl⟩ (Nat.le_of_ble_eq_true rfl) (Nat.le_of_ble_eq_true rfl) dX5_rateOf_13
set_option maxHeartbeats 400000 in
theorem met_X5_isKind (l : Launch) (G : hG) {h : hp} (k : Int32) : mo_Ri l G yX5_isKind (ws_ yX5_isKind cX5_isKind 1 (Option.some Jvm.ClassFile.FieldType.boolean)) ({ frames := 1, cells := 0, slots := 0, locals := 22 } : Room) [.int k] h (b01 (0 ≤ k ∧ k ≤ 2)) := by
  refine hv_bi .boolean (Or.inr (Or.inl rfl)) (own := RX5) (by decide +kernel) rfl (Nat.le_of_ble_eq_true rfl) (fun p e s m a below meth c ls Q hx hb hml hown hts hnm hret hw hl => ?_)
  have hl : lv_has ls 1 [(0, .int k)] := hl
  refine lv_iload_n hx hb dX5_isKind_0 rfl (lv_at hl 0 rfl) ?_
  refine lv_iconst (v := 0) hx hb dX5_isKind_1 (by decide) ?_
  refine lv_iconst (v := 2) hx hb dX5_isKind_2 (by decide) ?_
  refine hv_callir (va_runS (As := [.int k, .int 0, .int 2]) (rest := []) ⟨hx, hb, hml, hown, hts⟩ (met_X5_isIn l G k 0 2 ) (va_cwS 3 hts (lw_S q2666 q2667 q106 q2668) rfl rfl rfl (by decide +kernel) ⟨Nat.le_of_ble_eq_true rfl, Nat.le_of_ble_eq_true rfl⟩) (hv_preS hw) rfl rfl hl.1 rfl (lv_room (Nat.le_of_ble_eq_true rfl)) dX5_isKind_3 ⟨Nat.le_of_ble_eq_true rfl, Nat.le_of_ble_eq_true rfl⟩) hw (fun H locs hw => ?_)
  exact hret (b01_z _) hw ⟨rfl, rfl⟩ (Nat.le_of_ble_eq_true rfl) (Nat.le_of_ble_eq_true rfl) dX5_isKind_6
set_option maxHeartbeats 400000 in
theorem met_X5_isBracket (l : Launch) (G : hG) {h : hp} {o : Nat} {ma : Nat → Nat} {σ : MS} (hM : isMod G h o ma σ) (b : Int32) : mo_Ri l G yX5_isBracket (ws_ yX5_isBracket cX5_isBracket 2 (Option.some Jvm.ClassFile.FieldType.boolean)) ({ frames := 1, cells := 0, slots := 0, locals := 22 } : Room) [.ref o, .int b] h (b01 (0 ≤ b ∧ b ≤ σ.2 0 1 - 1)) := by
  refine hv_bi .boolean (Or.inr (Or.inl rfl)) (own := RX5) (by decide +kernel) rfl (Nat.le_of_ble_eq_true rfl) (fun p e s m a below meth c ls Q hx hb hml hown hts hnm hret hw hl => ?_)
  have hl : lv_has ls 2 [(0, .ref o), (1, .int b)] := hl
  refine lv_iload_n hx hb dX5_isBracket_0 rfl (lv_at hl 1 rfl) ?_
  refine lv_iconst (v := 0) hx hb dX5_isBracket_1 (by decide) ?_
  refine lv_aload_n hx hb dX5_isBracket_2 rfl (lv_at hl 0 rfl) ?_
  refine mo_get hx hb hts hown hw hM 0 (by decide) q2554 rfl (v := .ref (ma 0)) rfl dX5_isBracket_3 ?_
  refine lv_iconst (v := 1) hx hb dX5_isBracket_6 (by decide) ?_
  refine mo_ald hx hb hw hM 0 rfl (j := 1) rfl (show 1 < 137 by omega) dX5_isBracket_7 ?_
  refine lv_iconst (v := 1) hx hb dX5_isBracket_8 (by decide) ?_
  refine lv_isub hx hb dX5_isBracket_9 ?_
  refine hv_callir (va_runS (As := [.int b, .int 0, .int ((σ.2 0 1) - 1)]) (rest := []) ⟨hx, hb, hml, hown, hts⟩ (met_X5_isIn l G b 0 ((σ.2 0 1) - 1) ) (va_cwS 3 hts (lw_S q2666 q2667 q106 q2668) rfl rfl rfl (by decide +kernel) ⟨Nat.le_of_ble_eq_true rfl, Nat.le_of_ble_eq_true rfl⟩) (hv_preS hw) rfl rfl hl.1 rfl (lv_room (Nat.le_of_ble_eq_true rfl)) dX5_isBracket_10 ⟨Nat.le_of_ble_eq_true rfl, Nat.le_of_ble_eq_true rfl⟩) hw (fun H locs hw => ?_)
  exact hret (b01_z _) hw ⟨rfl, rfl⟩ (Nat.le_of_ble_eq_true rfl) (Nat.le_of_ble_eq_true rfl) dX5_isBracket_13
set_option maxHeartbeats 400000 in
theorem met_X5_isCitizen (l : Launch) (G : hG) {h : hp} {o : Nat} {ma : Nat → Nat} {σ : MS} (hM : isMod G h o ma σ) (c9 : Int32) : mo_Ri l G yX5_isCitizen (ws_ yX5_isCitizen cX5_isCitizen 2 (Option.some Jvm.ClassFile.FieldType.boolean)) ({ frames := 1, cells := 0, slots := 0, locals := 22 } : Room) [.ref o, .int c9] h (b01 (0 ≤ c9 ∧ c9 ≤ σ.2 0 5 - 1)) := by
  refine hv_bi .boolean (Or.inr (Or.inl rfl)) (own := RX5) (by decide +kernel) rfl (Nat.le_of_ble_eq_true rfl) (fun p e s m a below meth c ls Q hx hb hml hown hts hnm hret hw hl => ?_)
  have hl : lv_has ls 2 [(0, .ref o), (1, .int c9)] := hl
  refine lv_iload_n hx hb dX5_isCitizen_0 rfl (lv_at hl 1 rfl) ?_
  refine lv_iconst (v := 0) hx hb dX5_isCitizen_1 (by decide) ?_
  refine lv_aload_n hx hb dX5_isCitizen_2 rfl (lv_at hl 0 rfl) ?_
  refine mo_get hx hb hts hown hw hM 0 (by decide) q2554 rfl (v := .ref (ma 0)) rfl dX5_isCitizen_3 ?_
  refine lv_iconst (v := 5) hx hb dX5_isCitizen_6 (by decide) ?_
  refine mo_ald hx hb hw hM 0 rfl (j := 5) rfl (show 5 < 137 by omega) dX5_isCitizen_7 ?_
  refine lv_iconst (v := 1) hx hb dX5_isCitizen_8 (by decide) ?_
  refine lv_isub hx hb dX5_isCitizen_9 ?_
  refine hv_callir (va_runS (As := [.int c9, .int 0, .int ((σ.2 0 5) - 1)]) (rest := []) ⟨hx, hb, hml, hown, hts⟩ (met_X5_isIn l G c9 0 ((σ.2 0 5) - 1) ) (va_cwS 3 hts (lw_S q2666 q2667 q106 q2668) rfl rfl rfl (by decide +kernel) ⟨Nat.le_of_ble_eq_true rfl, Nat.le_of_ble_eq_true rfl⟩) (hv_preS hw) rfl rfl hl.1 rfl (lv_room (Nat.le_of_ble_eq_true rfl)) dX5_isCitizen_10 ⟨Nat.le_of_ble_eq_true rfl, Nat.le_of_ble_eq_true rfl⟩) hw (fun H locs hw => ?_)
  exact hret (b01_z _) hw ⟨rfl, rfl⟩ (Nat.le_of_ble_eq_true rfl) (Nat.le_of_ble_eq_true rfl) dX5_isCitizen_13
set_option maxHeartbeats 400000 in
theorem met_X5_isIncome (l : Launch) (G : hG) {h : hp} {o : Nat} {ma : Nat → Nat} {σ : MS} (hM : isMod G h o ma σ) (x : Int32) : mo_Ri l G yX5_isIncome (ws_ yX5_isIncome cX5_isIncome 2 (Option.some Jvm.ClassFile.FieldType.boolean)) ({ frames := 1, cells := 0, slots := 0, locals := 22 } : Room) [.ref o, .int x] h (b01 (0 ≤ x ∧ x ≤ 9999)) := by
  refine hv_bi .boolean (Or.inr (Or.inl rfl)) (own := RX5) (by decide +kernel) rfl (Nat.le_of_ble_eq_true rfl) (fun p e s m a below meth c ls Q hx hb hml hown hts hnm hret hw hl => ?_)
  have hl : lv_has ls 2 [(0, .ref o), (1, .int x)] := hl
  refine lv_iload_n hx hb dX5_isIncome_0 rfl (lv_at hl 1 rfl) ?_
  refine lv_iconst (v := 0) hx hb dX5_isIncome_1 (by decide) ?_
  refine lv_sipush (v := 9999) hx hb dX5_isIncome_2 (by decide) ?_
  refine hv_callir (va_runS (As := [.int x, .int 0, .int 9999]) (rest := []) ⟨hx, hb, hml, hown, hts⟩ (met_X5_isIn l G x 0 9999 ) (va_cwS 3 hts (lw_S q2666 q2667 q106 q2668) rfl rfl rfl (by decide +kernel) ⟨Nat.le_of_ble_eq_true rfl, Nat.le_of_ble_eq_true rfl⟩) (hv_preS hw) rfl rfl hl.1 rfl (lv_room (Nat.le_of_ble_eq_true rfl)) dX5_isIncome_5 ⟨Nat.le_of_ble_eq_true rfl, Nat.le_of_ble_eq_true rfl⟩) hw (fun H locs hw => ?_)
  exact hret (b01_z _) hw ⟨rfl, rfl⟩ (Nat.le_of_ble_eq_true rfl) (Nat.le_of_ble_eq_true rfl) dX5_isIncome_8
set_option maxHeartbeats 400000 in
theorem met_X5_nextLot (l : Launch) (G : hG) {h : hp} (x : Int32) : mo_Ri l G yX5_nextLot (ws_ yX5_nextLot cX5_nextLot 1 (Option.some Jvm.ClassFile.FieldType.int)) ({ frames := 0, cells := 0, slots := 0, locals := 0 } : Room) [.int x] h ((41 * x + 17) - (41 * x + 17) / 10000 * 10000) := by
  refine hv_bi .int (Or.inl rfl) (own := RX5) (by decide +kernel) rfl (Nat.le_of_ble_eq_true rfl) (fun p e s m a below meth c ls Q hx hb hml hown hts hnm hret hw hl => ?_)
  have hl : lv_has ls 1 [(0, .int x)] := hl
  refine lv_bipush (v := 41) hx hb dX5_nextLot_0 (by decide) ?_
  refine lv_iload_n hx hb dX5_nextLot_2 rfl (lv_at hl 0 rfl) ?_
  refine lv_imul hx hb dX5_nextLot_3 ?_
  refine lv_bipush (v := 17) hx hb dX5_nextLot_4 (by decide) ?_
  refine lv_iadd hx hb dX5_nextLot_6 ?_
  refine lv_sipush (v := 10000) hx hb dX5_nextLot_7 (by decide) ?_
  refine lv_irem hx hb dX5_nextLot_10 (by decide) ?_
  exact hret rfl hw ⟨rfl, rfl⟩ (Nat.le_of_ble_eq_true rfl) (Nat.le_of_ble_eq_true rfl) dX5_nextLot_11
set_option maxHeartbeats 400000 in
theorem met_X5_of (l : Launch) (G : hG) {h : hp} {o : Nat} {ma : Nat → Nat} {σ : MS} (hM : isMod G h o ma σ) (c9 : Nat) (w9 : Nat) (hy1 : 23 + 19 * c9 + w9 < 137) : mo_Ri l G yX5_of (ws_ yX5_of cX5_of 3 (Option.some Jvm.ClassFile.FieldType.int)) ({ frames := 0, cells := 0, slots := 0, locals := 0 } : Room) [.ref o, .int (nI c9), .int (nI w9)] h (σ.2 0 (23 + 19 * c9 + w9)) := by
  refine hv_bi .int (Or.inl rfl) (own := RX5) (by decide +kernel) rfl (Nat.le_of_ble_eq_true rfl) (fun p e s m a below meth c ls Q hx hb hml hown hts hnm hret hw hl => ?_)
  have hl : lv_has ls 3 [(0, .ref o), (1, .int (nI c9)), (2, .int (nI w9))] := hl
  refine lv_aload_n hx hb dX5_of_0 rfl (lv_at hl 0 rfl) ?_
  refine mo_get hx hb hts hown hw hM 0 (by decide) q2554 rfl (v := .ref (ma 0)) rfl dX5_of_1 ?_
  refine lv_bipush (v := 23) hx hb dX5_of_4 (by decide) ?_
  refine lv_bipush (v := 19) hx hb dX5_of_6 (by decide) ?_
  refine lv_iload_n hx hb dX5_of_8 rfl (lv_at hl 1 rfl) ?_
  refine lv_imul hx hb dX5_of_9 ?_
  refine lv_tope (y := nI (19 * c9)) (by simp only [nI, Int32.ofNat_add, Int32.ofNat_mul] <;> rfl) ?_
  refine lv_iadd hx hb dX5_of_10 ?_
  refine lv_tope (y := nI (23 + 19 * c9)) (by simp only [nI, Int32.ofNat_add, Int32.ofNat_mul] <;> rfl) ?_
  refine lv_iload_n hx hb dX5_of_11 rfl (lv_at hl 2 rfl) ?_
  refine lv_iadd hx hb dX5_of_12 ?_
  refine lv_tope (y := nI (23 + 19 * c9 + w9)) (by simp only [nI, Int32.ofNat_add, Int32.ofNat_mul] <;> rfl) ?_
  refine mo_ald hx hb hw hM 0 rfl (j := (23 + 19 * c9 + w9)) rfl (show 23 + 19 * c9 + w9 < 137 by omega) dX5_of_13 ?_
  exact hret rfl hw ⟨rfl, rfl⟩ (Nat.le_of_ble_eq_true rfl) (Nat.le_of_ble_eq_true rfl) dX5_of_14
set_option maxHeartbeats 400000 in
theorem met_X5_becomes (l : Launch) (G : hG) {h : hp} {o : Nat} {ma : Nat → Nat} {σ : MS} (hM : isMod G h o ma σ) (c9 : Nat) (w9 : Nat) (v9 : Int32) (hy1 : 23 + 19 * c9 + w9 < 137) : mo_Mv l G yX5_becomes (ws_ yX5_becomes cX5_becomes 4 (Option.none : Option Jvm.ClassFile.FieldType)) ({ frames := 0, cells := 0, slots := 0, locals := 0 } : Room) [.ref o, .int (nI c9), .int (nI w9), .int v9] h o ma (mo_sa σ 0 (23 + 19 * c9 + w9) v9) := by
  refine hv_bv (own := RX5) (by decide +kernel) rfl (Nat.le_of_ble_eq_true rfl) (fun p e s m a below meth c ls Q hx hb hml hown hts hnm hret hw hl => ?_)
  have hl : lv_has ls 4 [(0, .ref o), (1, .int (nI c9)), (2, .int (nI w9)), (3, .int v9)] := hl
  have hF : mo_fr o ma h h := mo_fr.rf
  refine lv_aload_n hx hb dX5_becomes_0 rfl (lv_at hl 0 rfl) ?_
  refine mo_get hx hb hts hown hw hM 0 (by decide) q2554 rfl (v := .ref (ma 0)) rfl dX5_becomes_1 ?_
  refine lv_bipush (v := 23) hx hb dX5_becomes_4 (by decide) ?_
  refine lv_bipush (v := 19) hx hb dX5_becomes_6 (by decide) ?_
  refine lv_iload_n hx hb dX5_becomes_8 rfl (lv_at hl 1 rfl) ?_
  refine lv_imul hx hb dX5_becomes_9 ?_
  refine lv_tope (y := nI (19 * c9)) (by simp only [nI, Int32.ofNat_add, Int32.ofNat_mul] <;> rfl) ?_
  refine lv_iadd hx hb dX5_becomes_10 ?_
  refine lv_tope (y := nI (23 + 19 * c9)) (by simp only [nI, Int32.ofNat_add, Int32.ofNat_mul] <;> rfl) ?_
  refine lv_iload_n hx hb dX5_becomes_11 rfl (lv_at hl 2 rfl) ?_
  refine lv_iadd hx hb dX5_becomes_12 ?_
  refine lv_tope (y := nI (23 + 19 * c9 + w9)) (by simp only [nI, Int32.ofNat_add, Int32.ofNat_mul] <;> rfl) ?_
  refine lv_iload_n hx hb dX5_becomes_13 rfl (lv_at hl 3 rfl) ?_
  refine mo_ast hx hb hw hM hF 0 rfl (j := (23 + 19 * c9 + w9)) rfl (show 23 + 19 * c9 + w9 < 137 by omega) dX5_becomes_14 (fun hh H locs hM hF hw => ?_)
  exact hret hw ⟨hM, hF⟩ (Nat.le_of_ble_eq_true rfl) (Nat.le_of_ble_eq_true rfl) dX5_becomes_15
set_option maxHeartbeats 400000 in
theorem met_X5_gets (l : Launch) (G : hG) {h : hp} {o : Nat} {ma : Nat → Nat} {σ : MS} (hM : isMod G h o ma σ) (c9 : Nat) (w9 : Nat) (v9 : Int32) (hy1 : 23 + 19 * c9 + w9 < 137) (y9 : Int32) (hgv : σ.2 0 (23 + 19 * c9 + w9) = y9) : mo_Mv l G yX5_gets (ws_ yX5_gets cX5_gets 4 (Option.none : Option Jvm.ClassFile.FieldType)) ({ frames := 0, cells := 0, slots := 0, locals := 0 } : Room) [.ref o, .int (nI c9), .int (nI w9), .int v9] h o ma (mo_sa σ 0 (23 + 19 * c9 + w9) (y9 + v9)) := by
  refine hv_bv (own := RX5) (by decide +kernel) rfl (Nat.le_of_ble_eq_true rfl) (fun p e s m a below meth c ls Q hx hb hml hown hts hnm hret hw hl => ?_)
  have hl : lv_has ls 4 [(0, .ref o), (1, .int (nI c9)), (2, .int (nI w9)), (3, .int v9)] := hl
  have hF : mo_fr o ma h h := mo_fr.rf
  refine lv_aload_n hx hb dX5_gets_0 rfl (lv_at hl 0 rfl) ?_
  refine mo_get hx hb hts hown hw hM 0 (by decide) q2554 rfl (v := .ref (ma 0)) rfl dX5_gets_1 ?_
  refine lv_bipush (v := 23) hx hb dX5_gets_4 (by decide) ?_
  refine lv_bipush (v := 19) hx hb dX5_gets_6 (by decide) ?_
  refine lv_iload_n hx hb dX5_gets_8 rfl (lv_at hl 1 rfl) ?_
  refine lv_imul hx hb dX5_gets_9 ?_
  refine lv_tope (y := nI (19 * c9)) (by simp only [nI, Int32.ofNat_add, Int32.ofNat_mul] <;> rfl) ?_
  refine lv_iadd hx hb dX5_gets_10 ?_
  refine lv_tope (y := nI (23 + 19 * c9)) (by simp only [nI, Int32.ofNat_add, Int32.ofNat_mul] <;> rfl) ?_
  refine lv_iload_n hx hb dX5_gets_11 rfl (lv_at hl 2 rfl) ?_
  refine lv_iadd hx hb dX5_gets_12 ?_
  refine lv_tope (y := nI (23 + 19 * c9 + w9)) (by simp only [nI, Int32.ofNat_add, Int32.ofNat_mul] <;> rfl) ?_
  refine lv_dup2_11 hx hb dX5_gets_13 rfl rfl ?_
  refine mo_ald hx hb hw hM 0 rfl (j := (23 + 19 * c9 + w9)) rfl (show 23 + 19 * c9 + w9 < 137 by omega) dX5_gets_14 ?_
  refine lv_tope (y := y9) (hgv) ?_
  refine lv_iload_n hx hb dX5_gets_15 rfl (lv_at hl 3 rfl) ?_
  refine lv_iadd hx hb dX5_gets_16 ?_
  refine mo_ast hx hb hw hM hF 0 rfl (j := (23 + 19 * c9 + w9)) rfl (show 23 + 19 * c9 + w9 < 137 by omega) dX5_gets_17 (fun hh H locs hM hF hw => ?_)
  exact hret hw ⟨hM, hF⟩ (Nat.le_of_ble_eq_true rfl) (Nat.le_of_ble_eq_true rfl) dX5_gets_18
set_option maxHeartbeats 400000 in
theorem met_X5_proved (l : Launch) (G : hG) {h : hp} {o : Nat} {ma : Nat → Nat} {σ : MS} (hM : isMod G h o ma σ) (c9 : Nat) (k : Nat) (hy1 : 23 + 19 * c9 + (13 + 2 * k) < 137) : mo_Ri l G yX5_proved (ws_ yX5_proved cX5_proved 3 (Option.some Jvm.ClassFile.FieldType.int)) ({ frames := 1, cells := 0, slots := 0, locals := 22 } : Room) [.ref o, .int (nI c9), .int (nI k)] h (σ.2 0 (23 + 19 * c9 + (13 + 2 * k))) := by
  refine hv_bi .int (Or.inl rfl) (own := RX5) (by decide +kernel) rfl (Nat.le_of_ble_eq_true rfl) (fun p e s m a below meth c ls Q hx hb hml hown hts hnm hret hw hl => ?_)
  have hl : lv_has ls 3 [(0, .ref o), (1, .int (nI c9)), (2, .int (nI k))] := hl
  refine lv_aload_n hx hb dX5_proved_0 rfl (lv_at hl 0 rfl) ?_
  refine lv_iload_n hx hb dX5_proved_1 rfl (lv_at hl 1 rfl) ?_
  refine lv_bipush (v := 13) hx hb dX5_proved_2 (by decide) ?_
  refine lv_iconst (v := 2) hx hb dX5_proved_4 (by decide) ?_
  refine lv_iload_n hx hb dX5_proved_5 rfl (lv_at hl 2 rfl) ?_
  refine lv_imul hx hb dX5_proved_6 ?_
  refine lv_tope (y := nI (2 * k)) (by simp only [nI, Int32.ofNat_add, Int32.ofNat_mul] <;> rfl) ?_
  refine lv_iadd hx hb dX5_proved_7 ?_
  refine lv_tope (y := nI (13 + 2 * k)) (by simp only [nI, Int32.ofNat_add, Int32.ofNat_mul] <;> rfl) ?_
  refine hv_callir (va_runV (As := [.int (nI c9), .int (nI (13 + 2 * k))]) (rest := []) ⟨hx, hb, hml, hown, hts⟩ (met_X5_of l G hM c9 (13 + 2 * k) (show 23 + 19 * c9 + (13 + 2 * k) < 137 by omega)) (cwV 2 hts (lw_V q2740 q2742 qs59 q106 q2743) rfl rfl rfl (by decide +kernel) ⟨Nat.le_of_ble_eq_true rfl, Nat.le_of_ble_eq_true rfl⟩) (hv_preV hw pk_X5 hM.1) rfl rfl hl.1 rfl (lv_room (Nat.le_of_ble_eq_true rfl)) dX5_proved_8 ⟨Nat.le_of_ble_eq_true rfl, Nat.le_of_ble_eq_true rfl⟩) hw (fun H locs hw => ?_)
  exact hret rfl hw ⟨rfl, rfl⟩ (Nat.le_of_ble_eq_true rfl) (Nat.le_of_ble_eq_true rfl) dX5_proved_11
set_option maxHeartbeats 400000 in
theorem met_X5_unproved (l : Launch) (G : hG) {h : hp} {o : Nat} {ma : Nat → Nat} {σ : MS} (hM : isMod G h o ma σ) (c9 : Nat) (k : Nat) (hy1 : 23 + 19 * c9 + (13 + 2 * k + 1) < 137) : mo_Ri l G yX5_unproved (ws_ yX5_unproved cX5_unproved 3 (Option.some Jvm.ClassFile.FieldType.int)) ({ frames := 1, cells := 0, slots := 0, locals := 22 } : Room) [.ref o, .int (nI c9), .int (nI k)] h (σ.2 0 (23 + 19 * c9 + (13 + 2 * k + 1))) := by
  refine hv_bi .int (Or.inl rfl) (own := RX5) (by decide +kernel) rfl (Nat.le_of_ble_eq_true rfl) (fun p e s m a below meth c ls Q hx hb hml hown hts hnm hret hw hl => ?_)
  have hl : lv_has ls 3 [(0, .ref o), (1, .int (nI c9)), (2, .int (nI k))] := hl
  refine lv_aload_n hx hb dX5_unproved_0 rfl (lv_at hl 0 rfl) ?_
  refine lv_iload_n hx hb dX5_unproved_1 rfl (lv_at hl 1 rfl) ?_
  refine lv_bipush (v := 13) hx hb dX5_unproved_2 (by decide) ?_
  refine lv_iconst (v := 2) hx hb dX5_unproved_4 (by decide) ?_
  refine lv_iload_n hx hb dX5_unproved_5 rfl (lv_at hl 2 rfl) ?_
  refine lv_imul hx hb dX5_unproved_6 ?_
  refine lv_tope (y := nI (2 * k)) (by simp only [nI, Int32.ofNat_add, Int32.ofNat_mul] <;> rfl) ?_
  refine lv_iadd hx hb dX5_unproved_7 ?_
  refine lv_tope (y := nI (13 + 2 * k)) (by simp only [nI, Int32.ofNat_add, Int32.ofNat_mul] <;> rfl) ?_
  refine lv_iconst (v := 1) hx hb dX5_unproved_8 (by decide) ?_
  refine lv_iadd hx hb dX5_unproved_9 ?_
  refine lv_tope (y := nI (13 + 2 * k + 1)) (by simp only [nI, Int32.ofNat_add, Int32.ofNat_mul] <;> rfl) ?_
  refine hv_callir (va_runV (As := [.int (nI c9), .int (nI (13 + 2 * k + 1))]) (rest := []) ⟨hx, hb, hml, hown, hts⟩ (met_X5_of l G hM c9 (13 + 2 * k + 1) (show 23 + 19 * c9 + (13 + 2 * k + 1) < 137 by omega)) (cwV 2 hts (lw_V q2740 q2742 qs59 q106 q2743) rfl rfl rfl (by decide +kernel) ⟨Nat.le_of_ble_eq_true rfl, Nat.le_of_ble_eq_true rfl⟩) (hv_preV hw pk_X5 hM.1) rfl rfl hl.1 rfl (lv_room (Nat.le_of_ble_eq_true rfl)) dX5_unproved_10 ⟨Nat.le_of_ble_eq_true rfl, Nat.le_of_ble_eq_true rfl⟩) hw (fun H locs hw => ?_)
  exact hret rfl hw ⟨rfl, rfl⟩ (Nat.le_of_ble_eq_true rfl) (Nat.le_of_ble_eq_true rfl) dX5_unproved_13
