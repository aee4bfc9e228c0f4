set_option maxRecDepth 100000
set_option maxHeartbeats 1000000 in
theorem met_X5_writesNumber (l : Launch) (G : hG) {h : hp} {o : Nat} {ma : Nat → Nat} {σ : MS} (hM : isMod G h o ma σ) (t9 : Nat) (x9 : Nat) (hxs : x9 < 10000000) (ht : t9 + d_hi x9 + 1 ≤ 80) : mo_Mi l G yX5_writesNumber (ws_ yX5_writesNumber cX5_writesNumber 5 (Option.some Jvm.ClassFile.FieldType.int)) ({ frames := 1, cells := 0, slots := 0, locals := 22 } : Room) [.ref o, .int (nI t9), .int (nI x9)] h o ma (nI (t9 + (d_hi x9 + 1))) (mo_nl σ (d_row (σ.2 13) t9 x9)) := by
  refine hv_bi .int (Or.inl rfl) (own := RX5) (by decide +kernel) rfl (Nat.le_of_ble_eq_true rfl) (fun p e s m a below meth c ls Q hx hb hml hown hts hnm hret hw hl => ?_)
  have hl : lv_has ls 5 [(0, .ref o), (1, .int (nI t9)), (2, .int (nI x9))] := hl
  have hF : mo_fr o ma h h := mo_fr.rf
  have h13 : isMod G h o ma (mo_nl σ (σ.2 13)) := by rw [mo_nl_self]; exact hM
  have hx7 := d_hi_7 x9
  refine lv_iconst (v := 1) hx hb dX5_writesNumber_0 (by decide) ?_
  refine lv_istore_n (lv' := [(3, .int 1), (0, .ref o), (1, .int (nI t9)), (2, .int (nI x9))]) hx hb dX5_writesNumber_1 rfl hl (by decide) rfl (fun ls hl => ?_)
  have LP2 : ∀ (n2 : Nat) (i9 : Nat) (H : Heap) (locs : List Loc) (ls : Array Slot), 8 - i9 < n2 → i9 ≤ 7 → (∀ k, k < i9 → 10 ≤ x9 / 10 ^ k) → hv_W G s h H locs → lv_has ls 5 [(3, .int (nI (10 ^ i9))), (0, .ref o), (1, .int (nI t9)), (2, .int (nI x9))] → W p l e ({ frames := 1, cells := 0, slots := 0, locals := 22 } : Room) s m a below meth c H locs 0 0 Q (F0 m 2 ls []) := by
    intro n2
    induction n2 with
    | zero => exact fun i9 H locs ls hmu2 => absurd hmu2 (Nat.not_lt_zero _)
    | succ n2 ih2 =>
      intro i9 H locs ls hmu2 hi7 hall hw hl
      refine lv_iload_n hx hb dX5_writesNumber_2 rfl (lv_at hl 3 rfl) ?_
      refine lv_iload_n hx hb dX5_writesNumber_3 rfl (lv_at hl 0 rfl) ?_
      refine lv_idiv hx hb dX5_writesNumber_4 (nI_nez (Nat.pow_pos (by decide)) (by have := p10_le hi7; omega)) ?_
      refine lv_tope (y := nI (x9 / 10 ^ i9)) (nI_div (by omega) (by have := p10_le hi7; omega)) ?_
      refine lv_bipush (v := 10) hx hb dX5_writesNumber_5 (by decide) ?_
      refine lv_icmp_lt (tgt := 18) hx hb dX5_writesNumber_7 (by decide) (fun c7 => ?_) (fun c7 => ?_)
      · skip
        have hlt : x9 / 10 ^ i9 < 10 := cmp_lt (b := 10) c7 rfl rfl (by have := Nat.div_le_self x9 (10 ^ i9); omega) (by omega)
        have hid : i9 = d_hi x9 := d_hi_ok (by omega) hall hlt hi7
        subst hid
        refine lv_iload_n hx hb dX5_writesNumber_18 rfl (lv_at hl 2 rfl) ?_
        refine lv_istore (lv' := [(4, .int (nI t9)), (3, .int (nI (10 ^ (d_hi x9)))), (0, .ref o), (1, .int (nI t9)), (2, .int (nI x9))]) hx hb dX5_writesNumber_19 hl (by decide) rfl (fun ls hl => ?_)
        have hM : isMod G h o ma (mo_nl σ (d_wr (σ.2 13) t9 x9 0)) := h13
        have LP21 : ∀ (n21 : Nat) (j9 : Nat) (hh : hp) (H : Heap) (locs : List Loc) (ls : Array Slot), 9 - j9 < n21 → j9 ≤ d_hi x9 + 1 → isMod G hh o ma (mo_nl σ (d_wr (σ.2 13) t9 x9 j9)) → mo_fr o ma h hh → hv_W G s hh H locs → lv_has ls 5 [(4, .int (nI (t9 + j9))), (3, .int (nI (d_un x9 j9))), (0, .ref o), (1, .int (nI t9)), (2, .int (nI x9))] → W p l e ({ frames := 1, cells := 0, slots := 0, locals := 22 } : Room) s m a below meth c H locs 0 0 Q (F0 m 21 ls []) := by
          intro n21
          induction n21 with
          | zero => exact fun j9 hh H locs ls hmu21 => absurd hmu21 (Nat.not_lt_zero _)
          | succ n21 ih21 =>
            intro j9 hh H locs ls hmu21 hj hM hF hw hl
            refine lv_iload_n hx hb dX5_writesNumber_21 rfl (lv_at hl 1 rfl) ?_
            refine lv_if_le (tgt := 50) hx hb dX5_writesNumber_22 (by decide) (fun c22 => ?_) (fun c22 => ?_)
            · skip
              have hj9 : j9 = d_hi x9 + 1 := d_un_0 hj (cmp_le (b := 0) c22 rfl rfl (d_un_lt x9 j9) (by omega))
              subst hj9
              refine lv_iload hx hb dX5_writesNumber_50 (lv_at hl 0 rfl) ?_
              exact hret rfl hw ⟨rfl, hM, hF⟩ (Nat.le_of_ble_eq_true rfl) (Nat.le_of_ble_eq_true rfl) dX5_writesNumber_52
            · skip
              have hj9 : j9 ≤ d_hi x9 := d_un_p hj (cmp_nle (b := 0) c22 rfl rfl (d_un_lt x9 j9) (by omega))
              have hun : d_un x9 j9 = 10 ^ (d_hi x9 - j9) := if_pos hj9
              have hpl := p10_le (i := d_hi x9 - j9) (by omega)
              refine lv_aload_n hx hb dX5_writesNumber_25 rfl (lv_at hl 2 rfl) ?_
              refine lv_iload hx hb dX5_writesNumber_26 (lv_at hl 0 rfl) ?_
              refine lv_bipush (v := 48) hx hb dX5_writesNumber_28 (by decide) ?_
              refine lv_iload_n hx hb dX5_writesNumber_30 rfl (lv_at hl 4 rfl) ?_
              refine lv_iload_n hx hb dX5_writesNumber_31 rfl (lv_at hl 1 rfl) ?_
              refine lv_idiv hx hb dX5_writesNumber_32 (nI_nez (by rw [hun]; exact Nat.pow_pos (by decide)) (d_un_lt x9 j9)) ?_
              refine lv_tope (y := nI (x9 / 10 ^ (d_hi x9 - j9))) (by rw [hun]; exact nI_div (by omega) (by omega)) ?_
              refine lv_bipush (v := 10) hx hb dX5_writesNumber_33 (by decide) ?_
              refine lv_irem hx hb dX5_writesNumber_35 (by decide) ?_
              refine lv_tope (y := nI (x9 / 10 ^ (d_hi x9 - j9) % 10)) (nI_mod10 (Nat.lt_of_le_of_lt (Nat.div_le_self _ _) (by omega))) ?_
              refine lv_iadd hx hb dX5_writesNumber_36 ?_
              refine lv_tope (y := nI (48 + x9 / 10 ^ (d_hi x9 - j9) % 10)) (by simp only [nI, Int32.ofNat_add, Int32.ofNat_mul] <;> rfl) ?_
              refine lv_tope (y := d_dg x9 j9) (rfl) ?_
              refine mo_calli (va_runV (As := [.int (nI (t9 + j9)), .int (d_dg x9 j9)]) (rest := []) ⟨hx, hb, hml, hown, hts⟩ (met_X5_put l G hM (t9 + j9) (d_dg x9 j9) (show (t9 + j9) < 80 by omega)) (cwV 2 hts (lw_V q2926 q2928 qs82 q106 q2929) rfl rfl rfl (by decide +kernel) ⟨Nat.le_of_ble_eq_true rfl, Nat.le_of_ble_eq_true rfl⟩) (hv_preV hw pk_X5 hM.1) rfl rfl hl.1 rfl (lv_room (Nat.le_of_ble_eq_true rfl)) dX5_writesNumber_37 ⟨Nat.le_of_ble_eq_true rfl, Nat.le_of_ble_eq_true rfl⟩) hw hF (fun hh H locs hM hF hw => ?_)
              have hM : isMod G hh o ma (mo_nl σ (d_wr (σ.2 13) t9 x9 (j9 + 1))) := by have h9 := hM; rw [mo_nl_sa] at h9; exact h9
              refine lv_tope (y := nI (t9 + (j9 + 1))) rfl ?_
              refine lv_istore (lv' := [(4, .int (nI (t9 + (j9 + 1)))), (3, .int (nI (d_un x9 j9))), (0, .ref o), (1, .int (nI t9)), (2, .int (nI x9))]) hx hb dX5_writesNumber_40 hl (by decide) rfl (fun ls hl => ?_)
              refine lv_iload_n hx hb dX5_writesNumber_42 rfl (lv_at hl 1 rfl) ?_
              refine lv_bipush (v := 10) hx hb dX5_writesNumber_43 (by decide) ?_
              refine lv_idiv hx hb dX5_writesNumber_45 (by decide) ?_
              refine lv_tope (y := nI (d_un x9 (j9 + 1))) (by rw [show (10 : Int32) = nI 10 from rfl, nI_div (d_un_lt x9 j9) (by decide)]; exact congrArg nI (d_un_s hj9)) ?_
              refine lv_istore_n (lv' := [(3, .int (nI (d_un x9 (j9 + 1)))), (4, .int (nI (t9 + (j9 + 1)))), (0, .ref o), (1, .int (nI t9)), (2, .int (nI x9))]) hx hb dX5_writesNumber_46 rfl hl (by decide) rfl (fun ls hl => ?_)
              refine lv_goto (tgt := 21) hx hb dX5_writesNumber_47 (by decide) ?_
              exact ih21 (j9 + 1) _ _ _ _ (by omega) (by omega) hM hF hw (lv_sub hl [1, 0, 2, 3, 4] rfl)
        exact LP21 _ 0 _ _ _ _ (Nat.lt_succ_self _) (by omega) hM hF hw (lv_sub hl [0, 1, 2, 3, 4] rfl)
      · skip
        have hge : 10 ≤ x9 / 10 ^ i9 := cmp_nlt (b := 10) c7 rfl rfl (by have := Nat.div_le_self x9 (10 ^ i9); omega) (by omega)
        have hi6 : i9 ≤ 6 := d_i6 hxs hge hi7
        refine lv_iload_n hx hb dX5_writesNumber_10 rfl (lv_at hl 0 rfl) ?_
        refine lv_bipush (v := 10) hx hb dX5_writesNumber_11 (by decide) ?_
        refine lv_imul hx hb dX5_writesNumber_13 ?_
        refine lv_tope (y := nI (10 ^ i9 * 10)) (by simp only [nI, Int32.ofNat_add, Int32.ofNat_mul] <;> rfl) ?_
        refine lv_tope (y := nI (10 ^ (i9 + 1))) (congrArg nI (Nat.pow_succ 10 i9).symm) ?_
        refine lv_istore_n (lv' := [(3, .int (nI (10 ^ (i9 + 1)))), (0, .ref o), (1, .int (nI t9)), (2, .int (nI x9))]) hx hb dX5_writesNumber_14 rfl hl (by decide) rfl (fun ls hl => ?_)
        refine lv_goto (tgt := 2) hx hb dX5_writesNumber_15 (by decide) ?_
        exact ih2 (i9 + 1) _ _ _ (by omega) (by omega) (fun k hk => by rcases Nat.lt_or_ge k i9 with z | z; exact hall k z; rw [show k = i9 by omega]; exact hge) hw (lv_sub hl [0, 1, 2, 3] rfl)
  exact LP2 _ 0 _ _ _ (Nat.lt_succ_self _) (by omega) (fun k hk => absurd hk (Nat.not_lt_zero _)) hw (lv_sub hl [0, 1, 2, 3] rfl)
