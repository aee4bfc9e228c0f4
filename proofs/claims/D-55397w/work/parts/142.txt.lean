/-! ===== the String constants: what they hold ===== -/
set_option maxRecDepth 100000
def hv_hsh : List Int32 := [0, 137407656, 3092207, 3493088, (-1352291591), 98258, 784989032, 3105752, 94742588, 106940956, 3704893, 114617, 63, 1037, 32, 2994043, 96721, 61, 3002723, 108704756, 967949082, 3004366, 3506349, 918531630]
def hv_hz : List Int32 := [1, 0, 0, 0, 0, 0, 0, 0, 0, 0, 0, 0, 0, 0, 0, 0, 0, 0, 0, 0, 0, 0, 0, 0]
def hv_tn (t : Nat) : Nat := (hv_txt.getD t []).length
def hv_tb (t j : Nat) : Int32 := nI ((hv_txt.getD t []).getD j 0)
/-- the cells of the constants, as they are known -/
def hv_C (G : hG) : Prop := ∀ t, t < 24 → G.2.2.2.1 (10 + t) < G.2.1 ∧ G.2.2.2.1 (100 + t) < G.2.1 ∧ G.2.2.2.2 (G.2.2.2.1 (10 + t)) = some (.inr (16, [.ref (G.2.2.2.1 (100 + t)), .int 0, .int (hv_hsh.getD t 0), .int (hv_hz.getD t 0)])) ∧ G.2.2.2.2 (G.2.2.2.1 (100 + t)) = some (.inl (3, (hv_tn t, .inl (hv_tb t))))
theorem hv_C.s {G : hG} {s : State} {h : hp} {H : Heap} {locs : List Loc} (hC : hv_C G) (hw : hv_W G s h H locs) (t : Nat) (ht : t < 24) : h (G.2.2.2.1 (10 + t)) = some (.inr (16, [.ref (G.2.2.2.1 (100 + t)), .int 0, .int (hv_hsh.getD t 0), .int (hv_hz.getD t 0)])) ∧ h (G.2.2.2.1 (100 + t)) = some (.inl (3, (hv_tn t, .inl (hv_tb t)))) := by
  obtain ⟨h1, h2, h3, h4⟩ := hC t ht
  exact ⟨(hw.2.2.2.2.2 _ h1).trans h3, (hw.2.2.2.2.2 _ h2).trans h4⟩
