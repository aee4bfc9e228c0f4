/-! ===== what the walks over the JDK's classes need ===== -/
set_option maxRecDepth 100000
def hv_tag (e : hE) : Nat := match e with
  | .inl x => x.1
  | .inr x => 100 + x.1
theorem hv_ned {h : hp} {a b : Nat} {e1 e2 : hE} (h1 : h a = some e1) (h2 : h b = some e2) (hne : Nat.beq (hv_tag e1) (hv_tag e2) = false) : a ≠ b := by
  intro z
  subst z
  rw [Option.some.inj (h1.symm.trans h2)] at hne
  exact absurd rfl (Nat.ne_of_beq_eq_false hne)
section HVD
variable {l : Launch} {G : hG} {y : MethodName} {cc : ByteArray} {maxL : Nat} {rm : Room} {av : List Value} {h : hp} {own : String}
theorem hv_by {post : Int32 → hp → Prop} (hy : plainName y.cls = true) (ho : y.cls = own) (hle : (lg_sl av).length ≤ maxL)
    (body : hv_Bd l G y cc maxL (some .byte) rm av h own (fun p e s m a below meth c Q => ∀ {pc : Nat} {ls : Array Slot} {v : Int32} {h1 : hp} {H : Heap} {locs : List Loc} {C S : Nat}, narrow .byte (.int v) = .int v → hv_W G s h1 H locs → post v h1 → C ≤ rm.cells → S ≤ rm.slots → decode cc pc = .ok (.ireturn, 1) → W p l e rm s m a below meth c H locs C S Q (F0 m pc ls [.int v]))) : hv_Mi l G y (ws_ y cc maxL (some .byte)) rm av h post := by
  refine hv_body (own := own) hy ho hle fun p e s m below meth c ls hx hb hr hlocks hml hown hts hnm hw hl => ?_
  refine body p e s m _ below meth c ls _ hx hb hml hown hts hnm ?_ hw hl
  intro pc ls v h1 H locs C S hn hw hp hc hs hd
  exact hv_zret hx hb hr hlocks hn hw hp hc hs hd
end HVD
section HVDR
variable {p : Program} {l : Launch} {e : Env} {R : Room} {s : State} {m : MethodId} {args : Array Value} {below : List Frame} {meth : Method} {c : Code} {H : Heap} {locs : List Loc} {cells slots : Nat} {Q : State → Prop}
variable {cc : ByteArray} {pc : Nat} {ls : Array Slot} {rest st0 : List Value} {G : hG} {h : hp} {a : Array Value} {mc ms : Nat}
theorem hv_callvr (hr : va_Run p l e R s m args below meth c H locs cells slots mc ms (F0 m pc ls st0) rest (va_Qv (fun h1 => h1 = h) (hv_O G) (hv_A G) a) (hv_A G)) (hw : hv_W G s h H locs)
    (kk : ∀ (H1 : Heap) (locs1 : List Loc), hv_W G s h H1 locs1 → W p l e R s m args below meth c H1 locs1 (cells + mc) (slots + ms) Q (F0 m (pc + 3) ls rest)) : W p l e R s m args below meth c H locs cells slots Q (F0 m pc ls st0) :=
  hv_callv hr hw fun h1 H1 locs1 hp hw1 => by subst hp; exact kk H1 locs1 hw1
theorem hv_callqr {E : Option Nat} (hr : va_Run p l e R s m args below meth c H locs cells slots mc ms (F0 m pc ls st0) rest (va_Qq (fun r h1 => r = E ∧ h1 = h) (hv_O G) (hv_A G) a) (hv_A G)) (hw : hv_W G s h H locs)
    (kk : ∀ (H1 : Heap) (locs1 : List Loc), hv_W G s h H1 locs1 → W p l e R s m args below meth c H1 locs1 (cells + mc) (slots + ms) Q (F0 m (pc + 3) ls (va_rf E :: rest))) : W p l e R s m args below meth c H locs cells slots Q (F0 m pc ls st0) :=
  hv_callq hr hw fun r h1 H1 locs1 hp hw1 => by obtain ⟨h9, h8⟩ := hp; subst h9; subst h8; exact kk H1 locs1 hw1
end HVDR
theorem hv_narq {q : Option Nat} {n : String} : narrow (.object n) (va_rf q) = va_rf q := by cases q <;> rfl
theorem hv_fitq {q : Option Nat} {n : String} : fits (.object n) (va_rf q) = true := by cases q <;> rfl
theorem nI_nlt0 (i : Nat) (h : i < 2 ^ 31) : ¬ nI i < 0 := Int32.not_lt.mpr (nI_pos' h)
theorem i_and255 (x : Int32) : (x &&& 255).toUInt32.toNat < 256 := by
  have h : (x &&& 255).toUInt32.toNat = x.toUInt32.toNat &&& 255 := rfl
  rw [h]
  exact Nat.lt_of_le_of_lt Nat.and_le_right (by decide)
theorem i2c_255 (x : Int32) : ((x &&& 255).toUInt32 % 65536).toInt32 = x &&& 255 := by
  have h := i_and255 x
  have h2 : (x &&& 255).toUInt32 % 65536 = (x &&& 255).toUInt32 := by
    apply UInt32.toNat_inj.mp
    rw [UInt32.toNat_mod]
    exact Nat.mod_eq_of_lt (Nat.lt_of_lt_of_le h (by decide))
  rw [h2]
  rfl
theorem nar_c255 (x : Int32) : narrow .char (.int (x &&& 255)) = .int (x &&& 255) := congrArg Value.int (i2c_255 x)
