set_option maxRecDepth 100000
set_option maxHeartbeats 400000 in
theorem met_J9_isLatin1 (l : Launch) (G : hG) {h : hp} (b : Nat) (x1 : Int32) (x2 : Int32) (q : Nat) (hcq : h q = some (.inr (16, [.ref b, .int 0, .int x1, .int x2]))) : hv_Mi l G yJ9_isLatin1 (ws_ yJ9_isLatin1 cJ9_isLatin1 1 (Option.some Jvm.ClassFile.FieldType.boolean)) ({ frames := 0, cells := 0, slots := 0, locals := 0 } : Room) [.ref q] h (fun r h1 => r = 1 ∧ h1 = h) := by
  refine hv_bi .boolean (Or.inr (Or.inl rfl)) (own := RJ9) (by decide +kernel) rfl (Nat.le_of_ble_eq_true rfl) (fun p e s m a below meth c ls Q hx hb hml hown hts hnm hret hw hl => ?_)
  have hl : lv_has ls 1 [(0, .ref q)] := hl
  refine hv_gets hx hb hown hw 0 rfl (hts _ q598) (fun _ z => z) dJ9_isLatin1_0 ?_
  refine lv_if_eq (tgt := 17) hx hb dJ9_isLatin1_3 (by decide) (fun c => absurd c (by decide)) (fun _ => ?_)
  refine lv_aload_n hx hb dJ9_isLatin1_6 rfl (lv_at hl 0 rfl) ?_
  refine hv_get hx hb hts hown pk_J9 hw hcq 1 (by decide) (hts _ q749) (fun _ z => z) (v := .int 0) rfl dJ9_isLatin1_7 ?_
  refine lv_mat1 (P := 0 = 0) (j := 18) (fun k1 k2 => lv_if_ne (tgt := 17) hx hb dJ9_isLatin1_10 (by decide) (fun c => lv_iconst (v := 0) hx hb dJ9_isLatin1_17 (by decide) (k2 c)) (fun c => lv_iconst (v := 1) hx hb dJ9_isLatin1_13 (by decide) (lv_goto (tgt := 18) hx hb dJ9_isLatin1_14 (by decide) (k1 c)))) ?_
  exact hret (b01_z _) hw ⟨rfl, rfl⟩ (Nat.le_of_ble_eq_true rfl) (Nat.le_of_ble_eq_true rfl) dJ9_isLatin1_18
set_option maxHeartbeats 400000 in
theorem met_J9_coder (l : Launch) (G : hG) {h : hp} (b : Nat) (x1 : Int32) (x2 : Int32) (q : Nat) (hcq : h q = some (.inr (16, [.ref b, .int 0, .int x1, .int x2]))) : hv_Mi l G yJ9_coder (ws_ yJ9_coder cJ9_coder 1 (Option.some Jvm.ClassFile.FieldType.byte)) ({ frames := 0, cells := 0, slots := 0, locals := 0 } : Room) [.ref q] h (fun r h1 => r = 0 ∧ h1 = h) := by
  refine hv_by (own := RJ9) (by decide +kernel) rfl (Nat.le_of_ble_eq_true rfl) (fun p e s m a below meth c ls Q hx hb hml hown hts hnm hret hw hl => ?_)
  have hl : lv_has ls 1 [(0, .ref q)] := hl
  refine hv_gets hx hb hown hw 0 rfl (hts _ q598) (fun _ z => z) dJ9_coder_0 ?_
  refine lv_if_eq (tgt := 13) hx hb dJ9_coder_3 (by decide) (fun c => absurd c (by decide)) (fun _ => ?_)
  refine lv_aload_n hx hb dJ9_coder_6 rfl (lv_at hl 0 rfl) ?_
  refine hv_get hx hb hts hown pk_J9 hw hcq 1 (by decide) (hts _ q749) (fun _ z => z) (v := .int 0) rfl dJ9_coder_7 ?_
  refine lv_goto (tgt := 14) hx hb dJ9_coder_10 (by decide) ?_
  exact hret rfl hw ⟨rfl, rfl⟩ (Nat.le_of_ble_eq_true rfl) (Nat.le_of_ble_eq_true rfl) dJ9_coder_14
set_option maxHeartbeats 400000 in
theorem met_J9_length (l : Launch) (G : hG) {h : hp} (b : Nat) (x1 : Int32) (x2 : Int32) (n : Nat) (f : Nat → Int32) (q : Nat) (hcq : h q = some (.inr (16, [.ref b, .int 0, .int x1, .int x2]))) (hcb : h b = some (.inl (3, (n, .inl f)))) : hv_Mi l G yJ9_length (ws_ yJ9_length cJ9_length 1 (Option.some Jvm.ClassFile.FieldType.int)) ({ frames := 1, cells := 0, slots := 0, locals := 20 } : Room) [.ref q] h (fun r h1 => r = (nI n) ∧ h1 = h) := by
  refine hv_bi .int (Or.inl rfl) (own := RJ9) (by decide +kernel) rfl (Nat.le_of_ble_eq_true rfl) (fun p e s m a below meth c ls Q hx hb hml hown hts hnm hret hw hl => ?_)
  have hl : lv_has ls 1 [(0, .ref q)] := hl
  refine lv_aload_n hx hb dJ9_length_0 rfl (lv_at hl 0 rfl) ?_
  refine hv_get hx hb hts hown pk_J9 hw hcq 0 (by decide) (hts _ q748) (fun _ z => z) (v := .ref b) rfl dJ9_length_1 ?_
  refine hv_alen hx hb hw hcb (by decide) (v := nI n) rfl dJ9_length_4 ?_
  refine lv_aload_n hx hb dJ9_length_5 rfl (lv_at hl 0 rfl) ?_
  refine hv_callir (va_runV (As := []) (rest := [.int (nI n)]) ⟨hx, hb, hml, hown, hts⟩ (met_J9_coder l G b x1 x2 q hcq) (cwV 0 hts (lw_V q594 q595 q596 q104 q597) rfl rfl rfl (by decide +kernel) ⟨Nat.le_of_ble_eq_true rfl, Nat.le_of_ble_eq_true rfl⟩) (hv_preV hw pk_J9 hcq) rfl rfl hl.1 rfl (lv_room (Nat.le_of_ble_eq_true rfl)) dJ9_length_6 ⟨Nat.le_of_ble_eq_true rfl, Nat.le_of_ble_eq_true rfl⟩) hw (fun H locs hw => ?_)
  refine lv_ishr hx hb dJ9_length_9 ?_
  refine lv_tope (y := nI n) (by simp) ?_
  exact hret rfl hw ⟨rfl, rfl⟩ (Nat.le_of_ble_eq_true rfl) (Nat.le_of_ble_eq_true rfl) dJ9_length_10
set_option maxHeartbeats 400000 in
theorem met_J18_checkIndex (l : Launch) (G : hG) {h : hp} (i : Nat) (n : Nat) (g : Option Nat) (hj : i < n) (hn : n < 2 ^ 31) : hv_Mi l G yJ18_checkIndex (ws_ yJ18_checkIndex cJ18_checkIndex 3 (Option.some Jvm.ClassFile.FieldType.int)) ({ frames := 0, cells := 0, slots := 0, locals := 0 } : Room) [.int (nI i), .int (nI n), va_rf g] h (fun r h1 => r = (nI i) ∧ h1 = h) := by
  refine hv_bi .int (Or.inl rfl) (own := RJ18) (by decide +kernel) rfl (by cases g <;> exact Nat.le_of_ble_eq_true rfl) (fun p e s m a below meth c ls Q hx hb hml hown hts hnm hret hw hl => ?_)
  have hl : lv_has ls 3 [(0, .int (nI i)), (1, .int (nI n)), (2, va_rf g)] := hl
  refine lv_iload_n hx hb dJ18_checkIndex_0 rfl (lv_at hl 0 rfl) ?_
  refine lv_if_lt (tgt := 9) hx hb dJ18_checkIndex_1 (by decide) (fun c1 => absurd c1 (nI_nlt0 i (by omega))) (fun c1 => ?_)
  refine lv_iload_n hx hb dJ18_checkIndex_4 rfl (lv_at hl 0 rfl) ?_
  refine lv_iload_n hx hb dJ18_checkIndex_5 rfl (lv_at hl 1 rfl) ?_
  refine lv_icmp_lt (tgt := 16) hx hb dJ18_checkIndex_6 (by decide) (fun c6 => ?_) (fun c6 => absurd (nI_lt hj hn) c6)
  refine lv_iload_n hx hb dJ18_checkIndex_16 rfl (lv_at hl 0 rfl) ?_
  exact hret rfl hw ⟨rfl, rfl⟩ (Nat.le_of_ble_eq_true rfl) (Nat.le_of_ble_eq_true rfl) dJ18_checkIndex_17
set_option maxHeartbeats 400000 in
theorem met_J9_checkIndex (l : Launch) (G : hG) {h : hp} (i : Nat) (n : Nat) (hj : i < n) (hn : n < 2 ^ 31) : hv_Mv l G yJ9_checkIndex (ws_ yJ9_checkIndex cJ9_checkIndex 2 (Option.none : Option Jvm.ClassFile.FieldType)) ({ frames := 1, cells := 0, slots := 0, locals := 22 } : Room) [.int (nI i), .int (nI n)] h (fun h1 => h1 = h) := by
  refine hv_bv (own := RJ9) (by decide +kernel) rfl (Nat.le_of_ble_eq_true rfl) (fun p e s m a below meth c ls Q hx hb hml hown hts hnm hret hw hl => ?_)
  have hl : lv_has ls 2 [(0, .int (nI i)), (1, .int (nI n))] := hl
  refine lv_iload_n hx hb dJ9_checkIndex_0 rfl (lv_at hl 0 rfl) ?_
  refine lv_iload_n hx hb dJ9_checkIndex_1 rfl (lv_at hl 1 rfl) ?_
  refine hv_gets hx hb hown hw 9 rfl (hts _ q576) (fun _ z => z) dJ9_checkIndex_2 ?_
  refine hv_callir (va_runS (As := [.int (nI i), .int (nI n), va_rf (if G.2.2.2.1 4 = 0 then none else some (G.2.2.2.1 4 - 1))]) (rest := []) ⟨hx, hb, hml, hown, hts⟩ (met_J18_checkIndex l G i n (if G.2.2.2.1 4 = 0 then none else some (G.2.2.2.1 4 - 1)) (show i < n by omega) (show n < 2 ^ 31 by omega)) (va_cwS 3 hts (lw_S q1809 q909 q116 q910) rfl rfl rfl (by decide +kernel) ⟨Nat.le_of_ble_eq_true rfl, Nat.le_of_ble_eq_true rfl⟩) (hv_preS hw) rfl rfl hl.1 rfl (lv_room (Nat.le_of_ble_eq_true rfl)) dJ9_checkIndex_5 ⟨Nat.le_of_ble_eq_true rfl, Nat.le_of_ble_eq_true rfl⟩) hw (fun H locs hw => ?_)
  refine lv_pop hx hb dJ9_checkIndex_8 rfl ?_
  exact hret hw rfl (Nat.le_of_ble_eq_true rfl) (Nat.le_of_ble_eq_true rfl) dJ9_checkIndex_9
set_option maxHeartbeats 400000 in
theorem met_J19_charAt (l : Launch) (G : hG) {h : hp} (n : Nat) (f : Nat → Int32) (b : Nat) (i : Nat) (hcb : h b = some (.inl (3, (n, .inl f)))) (hj : i < n) (hn : n < 2 ^ 31) : hv_Mi l G yJ19_charAt (ws_ yJ19_charAt cJ19_charAt 2 (Option.some Jvm.ClassFile.FieldType.char)) ({ frames := 2, cells := 0, slots := 0, locals := 43 } : Room) [.ref b, .int (nI i)] h (fun r h1 => r = (f i &&& 255) ∧ h1 = h) := by
  refine hv_bi .char (Or.inr (Or.inr rfl)) (own := RJ19) (by decide +kernel) rfl (Nat.le_of_ble_eq_true rfl) (fun p e s m a below meth c ls Q hx hb hml hown hts hnm hret hw hl => ?_)
  have hl : lv_has ls 2 [(0, .ref b), (1, .int (nI i))] := hl
  refine lv_iload_n hx hb dJ19_charAt_0 rfl (lv_at hl 1 rfl) ?_
  refine lv_aload_n hx hb dJ19_charAt_1 rfl (lv_at hl 0 rfl) ?_
  refine hv_alen hx hb hw hcb (by decide) (v := nI n) rfl dJ19_charAt_2 ?_
  refine hv_callvr (va_runS (As := [.int (nI i), .int (nI n)]) (rest := []) ⟨hx, hb, hml, hown, hts⟩ (met_J9_checkIndex l G i n (show i < n by omega) (show n < 2 ^ 31 by omega)) (va_cwS 2 hts (lw_S q2303 q1807 q104 q1808) rfl rfl rfl (by decide +kernel) ⟨Nat.le_of_ble_eq_true rfl, Nat.le_of_ble_eq_true rfl⟩) (hv_preS hw) rfl rfl hl.1 rfl (lv_room (Nat.le_of_ble_eq_true rfl)) dJ19_charAt_3 ⟨Nat.le_of_ble_eq_true rfl, Nat.le_of_ble_eq_true rfl⟩) hw (fun H locs hw => ?_)
  refine lv_aload_n hx hb dJ19_charAt_6 rfl (lv_at hl 0 rfl) ?_
  refine lv_iload_n hx hb dJ19_charAt_7 rfl (lv_at hl 1 rfl) ?_
  refine hv_bald hx hb hw hcb (j := i) rfl (show i < n by omega) (by omega) dJ19_charAt_8 ?_
  refine lv_sipush (v := 255) hx hb dJ19_charAt_9 (by decide) ?_
  refine lv_iand hx hb dJ19_charAt_12 ?_
  refine lv_i2c hx hb dJ19_charAt_13 rfl ?_
  refine lv_tope (y := f i &&& 255) (i2c_255 _) ?_
  exact hret (nar_c255 _) hw ⟨rfl, rfl⟩ (Nat.le_of_ble_eq_true rfl) (Nat.le_of_ble_eq_true rfl) dJ19_charAt_14
set_option maxHeartbeats 400000 in
theorem met_J9_charAt (l : Launch) (G : hG) {h : hp} (b : Nat) (x1 : Int32) (x2 : Int32) (n : Nat) (f : Nat → Int32) (q : Nat) (i : Nat) (hcq : h q = some (.inr (16, [.ref b, .int 0, .int x1, .int x2]))) (hcb : h b = some (.inl (3, (n, .inl f)))) (hj : i < n) (hn : n < 2 ^ 31) : hv_Mi l G yJ9_charAt (ws_ yJ9_charAt cJ9_charAt 2 (Option.some Jvm.ClassFile.FieldType.char)) ({ frames := 3, cells := 0, slots := 0, locals := 64 } : Room) [.ref q, .int (nI i)] h (fun r h1 => r = (f i &&& 255) ∧ h1 = h) := by
  refine hv_bi .char (Or.inr (Or.inr rfl)) (own := RJ9) (by decide +kernel) rfl (Nat.le_of_ble_eq_true rfl) (fun p e s m a below meth c ls Q hx hb hml hown hts hnm hret hw hl => ?_)
  have hl : lv_has ls 2 [(0, .ref q), (1, .int (nI i))] := hl
  refine lv_aload_n hx hb dJ9_charAt_0 rfl (lv_at hl 0 rfl) ?_
  refine hv_callir (va_runV (As := []) (rest := []) ⟨hx, hb, hml, hown, hts⟩ (met_J9_isLatin1 l G b x1 x2 q hcq) (cwV 0 hts (lw_V q1368 q1369 q1370 q104 q1371) rfl rfl rfl (by decide +kernel) ⟨Nat.le_of_ble_eq_true rfl, Nat.le_of_ble_eq_true rfl⟩) (hv_preV hw pk_J9 hcq) rfl rfl hl.1 rfl (lv_room (Nat.le_of_ble_eq_true rfl)) dJ9_charAt_1 ⟨Nat.le_of_ble_eq_true rfl, Nat.le_of_ble_eq_true rfl⟩) hw (fun H locs hw => ?_)
  refine lv_if_eq (tgt := 16) hx hb dJ9_charAt_4 (by decide) (fun c => absurd c (by decide)) (fun _ => ?_)
  refine lv_aload_n hx hb dJ9_charAt_7 rfl (lv_at hl 0 rfl) ?_
  refine hv_get hx hb hts hown pk_J9 hw hcq 0 (by decide) (hts _ q748) (fun _ z => z) (v := .ref b) rfl dJ9_charAt_8 ?_
  refine lv_iload_n hx hb dJ9_charAt_11 rfl (lv_at hl 1 rfl) ?_
  refine hv_callir (va_runS (As := [.ref b, .int (nI i)]) (rest := []) ⟨hx, hb, hml, hown, hts⟩ (met_J19_charAt l G n f b i hcb (show i < n by omega) (show n < 2 ^ 31 by omega)) (va_cwS 2 hts (lw_S q2300 q2301 q117 q2302) rfl rfl rfl (by decide +kernel) ⟨Nat.le_of_ble_eq_true rfl, Nat.le_of_ble_eq_true rfl⟩) (hv_preS hw) rfl rfl hl.1 rfl (lv_room (Nat.le_of_ble_eq_true rfl)) dJ9_charAt_12 ⟨Nat.le_of_ble_eq_true rfl, Nat.le_of_ble_eq_true rfl⟩) hw (fun H locs hw => ?_)
  exact hret (nar_c255 _) hw ⟨rfl, rfl⟩ (Nat.le_of_ble_eq_true rfl) (Nat.le_of_ble_eq_true rfl) dJ9_charAt_15
