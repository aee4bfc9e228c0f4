/-! the classes of the run, its statics and String constants, by number -/
set_option maxRecDepth 100000
def clAll : List vw_C := [(RX1, TX1, 7), (RX2, TX2, 7), (RX3, TX3, 5), (RX4, TX4, 2), (RX5, TX5, 24), (RX6, TX6, 5), (RX7, TX7, 10), (RX8, TX8, 2), (RX9, TX9, 9), (RX10, TX10, 2), (RX11, TX11, 7), (RJ2, TJ2, 3), (RJ4, TJ4, 4), (RJ5, TJ5, 3), (RJ6, TJ6, 3), (RJ8, TJ8, 4), (RJ9, TJ9, 4), (RJ23, TJ23, 4), (RJ25, TJ25, 5), (RJ28, TJ28, 3), (RJ29, TJ29, 4)]
def hv_ifm : List Cond := [.interfaceMethod "java/util/Collection" "java/util/Collection" "toArray" "()[Ljava/lang/Object;", .interfaceMethod "java/util/Deque" "java/util/Deque" "iterator" "()Ljava/util/Iterator;", .interfaceMethod "java/util/Deque" "java/util/Deque" "addLast" "(Ljava/lang/Object;)V", .interfaceMethod "java/util/Deque" "java/util/Deque" "getFirst" "()Ljava/lang/Object;", .interfaceMethod "java/util/Deque" "java/util/Deque" "removeFirst" "()Ljava/lang/Object;", .interfaceMethod "java/util/Deque" "java/util/Deque" "size" "()I", .interfaceMethod "java/util/Deque" "java/util/Deque" "removeLast" "()Ljava/lang/Object;", .interfaceMethod "java/util/Iterator" "java/util/Iterator" "hasNext" "()Z", .interfaceMethod "java/util/Iterator" "java/util/Iterator" "next" "()Ljava/lang/Object;", .interfaceMethod "java/util/List" "java/util/List" "iterator" "()Ljava/util/Iterator;", .interfaceMethod "java/util/List" "java/util/List" "add" "(Ljava/lang/Object;)Z", .interfaceMethod "java/util/List" "java/util/List" "size" "()I", .interfaceMethod "java/util/List" "java/util/List" "get" "(I)Ljava/lang/Object;", .interfaceMethod "java/util/List" "java/util/List" "isEmpty" "()Z", .interfaceMethod "jdk/internal/access/JavaLangAccess" "jdk/internal/access/JavaLangAccess" "getUTF16Char" "([BI)C"]
def hv_zs (A : Nat → Nat) : List (String × String × String × Value) := [("java/lang/String", "COMPACT_STRINGS", "Z", .int 1), ("java/lang/StringUTF16", "$assertionsDisabled", "Z", .int 1), ("java/lang/StringUTF16", "HI_BYTE_SHIFT", "I", .int 0), ("java/lang/StringUTF16", "LO_BYTE_SHIFT", "I", .int 8), ("java/util/BitSet", "$assertionsDisabled", "Z", .int 1), ("java/lang/Integer", "DigitTens", "[B", .ref (A 0)), ("java/lang/Integer", "DigitOnes", "[B", .ref (A 1)), ("java/util/ArrayList", "EMPTY_ELEMENTDATA", "[Ljava/lang/Object;", .ref (A 2)), ("java/util/ArrayList", "DEFAULTCAPACITY_EMPTY_ELEMENTDATA", "[Ljava/lang/Object;", .ref (A 3)), ("jdk/internal/util/Preconditions", "SIOOBE_FORMATTER", "Ljava/util/function/BiFunction;", va_rf (if A 4 = 0 then none else some (A 4 - 1)))]
/-- the texts: 0 '', 1 'bracket', 2 'drop', 3 'rate', 4 'credit', 5 'cap', 6 'citizen', 7 'earn', 8 'claim', 9 'prove', 10 'year', 11 'tbg', 12 '?', 13 ' -', 14 ' ', 15 'aim ', 16 'ap ', 17 '=', 18 'arn ', 19 'rove ', 20 'racket ', 21 'ate ', 22 'rop ', 23 'earnclaimprovebracketratecapdropyear' -/
def hv_strs (A : Nat → Nat) : List (String × Nat × String × Nat) := [("CoinTaxes", 62, "", A 10), ("CoinTaxes", 105, "bracket", A 11), ("CoinTaxes", 114, "drop", A 12), ("CoinTaxes", 116, "rate", A 13), ("CoinTaxes", 118, "credit", A 14), ("CoinTaxes", 120, "cap", A 15), ("CoinTaxes", 122, "citizen", A 16), ("CoinTaxes", 124, "earn", A 17), ("CoinTaxes", 126, "claim", A 18), ("CoinTaxes", 131, "prove", A 19), ("CoinTaxes", 133, "year", A 20), ("CoinTaxes$Citizen", 181, "tbg", A 21), ("CoinTaxes$Citizen", 189, "?", A 22), ("CoinTaxes$Citizen", 191, "", A 10), ("CoinTaxes$Citizen", 196, " -", A 23), ("CoinTaxes$Law", 103, "", A 10), ("CoinTaxes$Law", 105, " ", A 24), ("CoinTaxes$Order", 36, "bracket", A 11), ("CoinTaxes$Order", 42, "drop", A 12), ("CoinTaxes$Order", 44, "rate", A 13), ("CoinTaxes$Order", 46, "credit", A 14), ("CoinTaxes$Order", 48, "cap", A 15), ("CoinTaxes$Order", 50, "citizen", A 16), ("CoinTaxes$Order", 52, "earn", A 17), ("CoinTaxes$Order", 54, "claim", A 18), ("CoinTaxes$Order", 56, "prove", A 19), ("CoinTaxes$Reader", 54, "aim ", A 25), ("CoinTaxes$Reader", 60, " ", A 24), ("CoinTaxes$Reader", 67, "claim", A 18), ("CoinTaxes$Reader", 72, "ap ", A 26), ("CoinTaxes$Reader", 74, "cap", A 15), ("CoinTaxes$Reader", 76, "=", A 27), ("CoinTaxes$Reader", 81, "arn ", A 28), ("CoinTaxes$Reader", 83, "earn", A 17), ("CoinTaxes$Reader", 85, "rove ", A 29), ("CoinTaxes$Reader", 87, "prove", A 19), ("CoinTaxes$Reader", 89, "racket ", A 30), ("CoinTaxes$Reader", 91, "bracket", A 11), ("CoinTaxes$Reader", 93, "ate ", A 31), ("CoinTaxes$Reader", 95, "rate", A 13), ("CoinTaxes$Reader", 113, "drop", A 12), ("CoinTaxes$Reader", 115, "rop ", A 32), ("CoinTaxes$Reader", 117, "year", A 20), ("CoinTaxesModel", 241, "earnclaimprovebracketratecapdropyear", A 33)]
def hv_txt : List (List Nat) := [[], [98, 114, 97, 99, 107, 101, 116], [100, 114, 111, 112], [114, 97, 116, 101], [99, 114, 101, 100, 105, 116], [99, 97, 112], [99, 105, 116, 105, 122, 101, 110], [101, 97, 114, 110], [99, 108, 97, 105, 109], [112, 114, 111, 118, 101], [121, 101, 97, 114], [116, 98, 103], [63], [32, 45], [32], [97, 105, 109, 32], [97, 112, 32], [61], [97, 114, 110, 32], [114, 111, 118, 101, 32], [114, 97, 99, 107, 101, 116, 32], [97, 116, 101, 32], [114, 111, 112, 32], [101, 97, 114, 110, 99, 108, 97, 105, 109, 112, 114, 111, 118, 101, 98, 114, 97, 99, 107, 101, 116, 114, 97, 116, 101, 99, 97, 112, 100, 114, 111, 112, 121, 101, 97, 114]]
/-! ===== hv: the whole heap of a run as one partial function; contracts say how it changes ===== -/
set_option maxRecDepth 100000
abbrev hE : Type := (Nat × vp_A) ⊕ (Nat × List Value)
abbrev hp : Type := Nat → Option hE
/-- a run: its classes (numbers, slots), the first address that is ours, array classes by kind, addresses of constants, the cells below ours that are known -/
abbrev hG : Type := va_G × Nat × (Nat → ClassId) × (Nat → Nat) × hp
def hv_ty : Nat → FieldType := fun k => match k with
  | 0 => .int
  | 1 => .long
  | 2 => .double
  | 3 => .byte
  | _ => .object "java/lang/Object"
def hv_av (x : (Nat → Int32) ⊕ (Nat → Int64) ⊕ (Nat → UInt32) ⊕ (Nat → UInt64) ⊕ (Nat → Option Nat)) : Nat → Value := match x with
  | .inl f => fun j => .int (f j)
  | .inr (.inl f) => fun j => .long (f j)
  | .inr (.inr (.inl f)) => fun j => .float (f j)
  | .inr (.inr (.inr (.inl f))) => fun j => .double (f j)
  | .inr (.inr (.inr (.inr f))) => fun j => va_rf (f j)
theorem hv_cell (cA : ClassId) (x : vp_A) : vp_cell cA x = arrV cA x.1 (hv_av x.2) := by
  obtain ⟨n, f | f | f | f | f⟩ := x <;> rfl
def hv_at (G : hG) (U : State) (H : Heap) (a : Nat) (e : hE) : Prop := match e with
  | .inl x => (G.2.1 ≤ a ∧ H[a]? = some (vp_cell (G.2.2.1 x.1) x.2)) ∨ (a < G.2.1 ∧ ∃ cell : Cell, H[a]? = some cell ∧ U.isArrayOf cell (hv_ty x.1) ∧ cell.vm ≠ .unknown ∧ cell.slots.size = x.2.1 ∧ ∀ j : Nat, j < x.2.1 → cell.slots[j]? = some (hv_av x.2.2 j))
  | .inr o => ∃ r : vw_C, clAll[o.1]? = some r ∧ ∃ cell : Cell, H[a]? = some cell ∧ cell.cls = G.1.1 o.1 ∧ cell.vm.isStatics = false ∧ cell.vm ≠ .unknown ∧ (G.2.1 ≤ a → cell.vm = .none) ∧ ∀ k : Nat, k < r.2.2 → cell.slots[G.1.2 o.1 k]? = some (vp_V o.2 k)
theorem hv_at.kept {G : hG} {U : State} {H H1 : Heap} {a : Nat} {e : hE} (h : hv_at G U H a e) (hq : H1[a]? = H[a]?) : hv_at G U H1 a e := by
  cases e with
  | inl x =>
    rcases h with ⟨h0, h⟩ | ⟨h0, cell, h1, h2⟩
    · exact Or.inl ⟨h0, hq.trans h⟩
    · exact Or.inr ⟨h0, cell, hq.trans h1, h2⟩
  | inr o =>
    obtain ⟨r, h1, cell, h2, h3⟩ := h
    exact ⟨r, h1, cell, hq.trans h2, h3⟩
theorem hv_at.moved {G : hG} {u U : State} {H : Heap} {a : Nat} {e : hE} (hvm : u.vm.Alike U.vm) (h : hv_at G u H a e) : hv_at G U H a e := by
  cases e with
  | inl x =>
    rcases h with h | ⟨h0, cell, h1, h2, h3⟩
    · exact Or.inl h
    · exact Or.inr ⟨h0, cell, h1, State.isArrayOf_alike hvm h2, h3⟩
  | inr o => exact h
theorem hv_at.lt {G : hG} {U : State} {H : Heap} {a : Nat} {e : hE} (h : hv_at G U H a e) : a < H.size := by
  cases e with
  | inl x =>
    rcases h with ⟨h0, h⟩ | ⟨h0, cell, h1, h2⟩
    · exact (Array.getElem?_eq_some_iff.mp h).1
    · exact (Array.getElem?_eq_some_iff.mp h1).1
  | inr o =>
    obtain ⟨r, h1, cell, h2, h3⟩ := h
    exact (Array.getElem?_eq_some_iff.mp h2).1
def hv_tys (G : hG) : List (ClassId × FieldType) := [(G.2.2.1 0, .int), (G.2.2.1 1, .long), (G.2.2.1 2, .double), (G.2.2.1 3, .byte), (G.2.2.1 4, .object "java/lang/Object")]
/-- the words of the tables that don't ride in the methods' lists -/
def nw_ok (w : Cond) : Bool := match w with
  | .fieldLinkNest .. => true
  | .methodLinkNest .. => true
  | .castable .. => true
  | .declares .. => true
  | .publicMethod .. => true
  | .unhidden .. => true
  | _ => false
def nw_fw (w : Cond) (U : State) : Prop := match w with
  | .interfaceMethod r o n d => r = o ∧ (Cond.declares ⟨r, n, d⟩).before #[] U = true ∧ (Cond.interfaceMethod r r n d).before #[] U = true ∧ (r ≠ "java/lang/invoke/MethodHandle" ∧ r ≠ "java/lang/invoke/VarHandle")
  | _ => True
def NW (U : State) : Prop := (∀ w ∈ lw_tbl, nw_ok w = true → w.before #[] U = true) ∧ (∀ w ∈ hv_ifm, nw_fw w U) ∧ va_AO "java/lang/Object" U
theorem nw_onT {w : Cond} (h : nw_ok w = true) : w.onTables = true := by
  cases w <;> first | rfl | (simp [nw_ok] at h)
theorem NW.warm {s U : State} (hW : s.WarmedH U.vm) (h : NW s) : NW U := by
  have tr : ∀ {c : Cond}, c.onTables = true → c.before #[] (s.setVm U.vm) = true → c.before #[] U = true := by
    intro c hc h
    have e := Cond.onTables_vm (A := #[]) (A' := #[]) (U := s) (U' := U) U.vm c hc
    have hU : U.setVm U.vm = U := rfl
    rw [hU] at e
    rw [← e]
    exact h
  refine ⟨fun w hw hk => ?_, fun w hw => ?_, va_AO.moved hW.alike h.2.2⟩
  · have hZ := h.1 w hw hk
    cases w with
    | fieldLinkNest a i b n d hh => exact va_Nw.warmF hW hZ
    | methodLinkNest a i x hh => exact va_Nw.warmM hW hZ
    | castable C T => exact va_Nw.warmC hW hZ
    | declares x => exact va_Nw.warmD hW hZ
    | publicMethod x => exact tr rfl (by rw [Cond.publicMethod_setVm hW.alike]; exact hZ)
    | unhidden C n d => exact tr rfl (by rw [Cond.unhidden_setVm hW.alike]; exact hZ)
    | _ => simp [nw_ok] at hk
  · have hZ := h.2.1 w hw
    cases w with
    | interfaceMethod r o n d =>
      obtain ⟨h0, h1, h2, h3⟩ := hZ
      obtain ⟨r', meth, hn, -⟩ := Cond.declares_spec h1
      exact ⟨h0, va_Nw.warmD hW h1, tr rfl (by rw [Cond.interfaceMethod_setVm hW.alike (r := r') hn h3]; exact h2), h3⟩
    | _ => trivial
theorem NW.use {s : State} {args : Array Value} {w : Cond} (h : NW s) (hw : w ∈ lw_tbl) (hk : nw_ok w = true) : w.before args s = true := va_any (nw_onT hk) (h.1 w hw hk)
theorem NW.nw {s : State} {w : Cond} (h : NW s) (hw : w ∈ lw_tbl) (hk : nw_ok w = true) : va_Nw w s := h.1 w hw hk
theorem NW.fw {s : State} {C : String} {x y : MethodName} (h : NW s) (h1 : Cond.declares x ∈ lw_tbl) (h2 : Cond.interfaceMethod x.cls x.cls x.name x.desc ∈ hv_ifm) (h3 : Cond.publicMethod y ∈ lw_tbl) (h4 : Cond.unhidden C x.name x.desc ∈ lw_tbl) (h5 : Cond.castable C x.cls ∈ lw_tbl) : va_Fw C x y s :=
  ⟨h.1 _ h1 rfl, (h.2.1 _ h2).2.2.1, h.1 _ h3 rfl, h.1 _ h4 rfl, h.1 _ h5 rfl⟩
def hv_A (G : hG) : Nat → Prop := fun q => G.2.1 ≤ q
def hv_K (G : hG) (U : State) : Prop := va_K G.1 clAll (hv_tys G) U ∧ NW U
theorem hv_K.warm {G : hG} {s U : State} (hW : s.WarmedH U.vm) (h : hv_K G s) : hv_K G U := ⟨va_K.moved hW.alike h.1, h.2.warm hW⟩
/-- statics and String constants -/
def hv_GS (G : hG) (U : State) (H : Heap) : Prop := (∀ z ∈ hv_zs G.2.2.2.1, va_Z z.1 z.2.1 z.2.2.1 z.2.2.2 (hv_A G) U H) ∧ vx_Zq Bundle.tN "UNASSIGNED_STACK" Bundle.steD (hv_A G) U H ∧ vx_Zq Bundle.tN "SUPPRESSED_SENTINEL" Bundle.listD (hv_A G) U H ∧ ∀ z ∈ hv_strs G.2.2.2.1, vk_R z.1 z.2.1 z.2.2.1 z.2.2.2 U
theorem hv_GS.kept {G : hG} {U : State} {H H1 : Heap} (h : hv_GS G U H) (hq : ∀ a : Nat, a < H.size → ¬ hv_A G a → H1[a]? = H[a]?) : hv_GS G U H1 := ⟨fun z hz => (h.1 z hz).kept hq, h.2.1.kept hq, h.2.2.1.kept hq, h.2.2.2⟩
theorem hv_GS.warm {G : hG} {s U : State} {H : Heap} (hW : s.WarmedH U.vm) (h : hv_GS G s H) : hv_GS G U H := ⟨fun z hz => va_Z.moved hW.alike (h.1 z hz), vx_Zq.moved hW.alike h.2.1, vx_Zq.moved hW.alike h.2.2.1, fun z hz => vk_R.warm hW (h.2.2.2 z hz)⟩
/-- the world in a walk: the heap is h; what isn't ours stays -/
def hv_W (G : hG) (s : State) (h : hp) (H : Heap) (locs : List Loc) : Prop :=
  (∀ a x, h a = some x → hv_at G s H a x) ∧ va_S (hv_A G) s.heap H locs ∧ hv_K G s ∧ hv_GS G s s.heap ∧ G.2.1 ≤ s.heap.size ∧ (∀ a, a < G.2.1 → h a = G.2.2.2.2 a)
/-- the world at a method's end -/
def hv_O (G : hG) (h : hp) (t : State) : Prop := (∀ a x, h a = some x → hv_at G t t.heap a x) ∧ ∀ a, a < G.2.1 → h a = G.2.2.2.2 a
def hv_up (h : hp) (a : Nat) (e : hE) (h1 : hp) : Prop := h1 a = some e ∧ ∀ b, b ≠ a → h1 b = h b
def hv_nw (h : hp) (q : Nat) (e : hE) (h1 : hp) : Prop := (∀ a x, h a = some x → a < q ∧ h1 a = some x) ∧ h1 q = some e ∧ (∀ b, b ≠ q → h1 b = h b) ∧ h q = none
def hv_le (h h1 : hp) : Prop := ∀ a x, h a = some x → h1 a = some x
theorem hv_le.rf {h : hp} : hv_le h h := fun _ _ z => z
theorem hv_le.tr {h h1 h2 : hp} (a : hv_le h h1) (b : hv_le h1 h2) : hv_le h h2 := fun q x z => b q x (a q x z)
theorem hv_nw.le {h h1 : hp} {q : Nat} {e : hE} (a : hv_nw h q e h1) : hv_le h h1 := fun p x z => (a.1 p x z).2
theorem hv_up.k {h h1 : hp} {a b : Nat} {e x : hE} (u : hv_up h a e h1) (hb : h b = some x) (hn : b ≠ a) : h1 b = some x := (u.2 b hn).trans hb
/-- two known cells that differ lie apart -/
theorem hv_ne {h : hp} {a b : Nat} {x y : hE} (ha : h a = some x) (hb : h b = some y) (hn : x ≠ y) : a ≠ b := fun q => by rw [q, hb] at ha; exact hn (Option.some.inj ha).symm
theorem hv_neO {h : hp} {a b i j : Nat} {fs gs : List Value} (ha : h a = some (.inr (i, fs))) (hb : h b = some (.inr (j, gs))) (hn : i ≠ j) : a ≠ b := hv_ne ha hb fun q => hn (Prod.mk.inj (Sum.inr.inj q)).1
theorem hv_neA {h : hp} {a b i j : Nat} {x y : vp_A} (ha : h a = some (.inl (i, x))) (hb : h b = some (.inl (j, y))) (hn : i ≠ j) : a ≠ b := hv_ne ha hb fun q => hn (Prod.mk.inj (Sum.inl.inj q)).1
theorem hv_neOA {h : hp} {a b i : Nat} {x : Nat × vp_A} {fs : List Value} (ha : h a = some (.inr (i, fs))) (hb : h b = some (.inl x)) : a ≠ b := hv_ne ha hb fun q => by cases q
theorem hv_neAO {h : hp} {a b i : Nat} {x : Nat × vp_A} {fs : List Value} (ha : h a = some (.inl x)) (hb : h b = some (.inr (i, fs))) : a ≠ b := hv_ne ha hb fun q => by cases q
theorem hv_W.lt {G : hG} {s : State} {h : hp} {H : Heap} {locs : List Loc} (hw : hv_W G s h H locs) {a : Nat} {x : hE} (ha : h a = some x) : a < H.size := (hw.1 a x ha).lt
theorem hv_W.bs {G : hG} {s : State} {h : hp} {H : Heap} {locs : List Loc} (hw : hv_W G s h H locs) : G.2.1 ≤ H.size := Nat.le_trans hw.2.2.2.2.1 hw.2.1.1
/-- the world as a callee meets it -/
theorem hv_W.enter {G : hG} {s U : State} {h : hp} {H : Heap} {locs : List Loc} (hw : hv_W G s h H locs) (hU : U.heap = H) (hW : s.WarmedH U.vm) : hv_W G U h U.heap [] := by
  obtain ⟨h1, h2, h3, h4, h5, h6⟩ := hw
  refine ⟨fun a x ha => by rw [hU]; exact hv_at.moved hW.alike (h1 a x ha), va_S.rf, h3.warm hW, ?_, by rw [hU]; exact Nat.le_trans h5 h2.1, h6⟩
  rw [hU]
  exact (h4.kept h2.2.1).warm hW
theorem hv_blind {G : hG} {h : hp} {av : List Value} : FrameBlind (va_Pc av (fun U => hv_W G U h U.heap [])) := by
  intro a U g mk q
  obtain ⟨q0, h1, h2, h3, h4, h5, h6⟩ := q
  have hA : U.vm.Alike (U.calling g mk a).vm := Vm.Alike.refl U.vm
  refine ⟨q0, fun b x hb => hv_at.moved hA (h1 b x hb), va_S.rf, ⟨va_K.moved hA h3.1, ?_⟩, ?_, h5, h6⟩
  · exact ⟨fun w hw hk => va_tabs (nw_onT hk) (rfl : U.vm = (U.calling g mk a).vm) (h3.2.1 w hw hk), fun w hw => (by
      have hZ := h3.2.2.1 w hw
      cases w with
      | interfaceMethod r o n d => exact ⟨hZ.1, va_tabs rfl (rfl : U.vm = (U.calling g mk a).vm) hZ.2.1, va_tabs rfl (rfl : U.vm = (U.calling g mk a).vm) hZ.2.2.1, hZ.2.2.2⟩
      | _ => trivial), va_AO.moved hA h3.2.2.2⟩
  · exact ⟨fun z hz => va_Z.moved hA (h4.1 z hz), vx_Zq.moved hA h4.2.1, vx_Zq.moved hA h4.2.2.1, fun z hz => vk_R.same (u := U) rfl (h4.2.2.2 z hz)⟩
/-- behind a call -/
theorem hv_W.back {G : hG} {s t : State} {h h1 : hp} {H H1 : Heap} {locs locs1 : List Loc} (hw : hv_W G s h H locs) (ht : t.heap = H1) (hvm : s.vm.Alike t.vm) (hO : hv_O G h1 t) (hS : va_S (hv_A G) s.heap H1 locs1) : hv_W G s h1 H1 locs1 :=
  ⟨fun a x ha => by rw [← ht]; exact hv_at.moved hvm.symm (hO.1 a x ha), hS, hw.2.2.1, hw.2.2.2.1, hw.2.2.2.2.1, hO.2⟩
theorem hv_W.out {G : hG} {s t : State} {h : hp} {H : Heap} {locs : List Loc} (hw : hv_W G s h H locs) (ht : t.heap = H) (hvm : s.vm.Alike t.vm) : hv_O G h t :=
  ⟨fun a x ha => by rw [ht]; exact hv_at.moved hvm (hw.1 a x ha), hw.2.2.2.2.2⟩
theorem hv_W.put {G : hG} {s : State} {h : hp} {H H1 : Heap} {locs : List Loc} {a k : Nat} {e : hE} (hw : hv_W G s h H locs) (ha : G.2.1 ≤ a) (he : hv_at G s H1 a e) (z : H1.size = H.size) (oq : ∀ q : Nat, q ≠ a → H1[q]? = H[q]?) : hv_W G s (va_up h a (some e)) H1 (locs ++ [⟨a, k⟩]) := by
  obtain ⟨h1, h2, h3, h4, h5, h6⟩ := hw
  refine ⟨fun b x hb => ?_, h2.put z oq ha, h3, h4, h5, fun b hb => ?_⟩
  · by_cases hba : b = a
    · subst hba
      rw [va_up_self] at hb
      cases hb
      exact he
    · rw [va_up_ne _ _ hba] at hb
      exact (h1 b x hb).kept (oq b hba)
  · rw [va_up_ne _ _ (show b ≠ a by omega)]
    exact h6 b hb
theorem hv_W.new {G : hG} {s : State} {h : hp} {H H1 : Heap} {locs : List Loc} {e : hE} (hw : hv_W G s h H locs) (he : hv_at G s H1 H.size e) (z : H.size ≤ H1.size) (oq : ∀ q : Nat, q < H.size → H1[q]? = H[q]?) : hv_W G s (va_up h H.size (some e)) H1 locs ∧ hv_nw h H.size e (va_up h H.size (some e)) := by
  have hl : ∀ a x, h a = some x → a < H.size := fun a x ha => hw.lt ha
  have hbs := hw.bs
  obtain ⟨h1, h2, h3, h4, h5, h6⟩ := hw
  refine ⟨⟨fun b x hb => ?_, ⟨Nat.le_trans h2.1 z, fun q q1 q2 => (oq q (Nat.lt_of_lt_of_le q1 h2.1)).trans (h2.2.1 q q1 q2), h2.2.2⟩, h3, h4, h5, fun b hb => ?_⟩, fun a x ha => ⟨hl a x ha, ?_⟩, va_up_self .., fun b hb => va_up_ne _ _ hb, ?_⟩
  · by_cases hba : b = H.size
    · subst hba
      rw [va_up_self] at hb
      cases hb
      exact he
    · rw [va_up_ne _ _ hba] at hb
      exact (h1 b x hb).kept (oq b (hl b x hb))
  · rw [va_up_ne _ _ (show b ≠ H.size by omega)]
    exact h6 b hb
  · have := hl a x ha
    rw [va_up_ne _ _ (show a ≠ H.size by omega)]
    exact ha
  · cases hx : h H.size with
    | none => rfl
    | some x => exact absurd (hl _ x hx) (Nat.lt_irrefl _)
/-- what a row asks of a class: its number, fields, words -/
def hv_cls (ci : Nat) (C : String) (T : u_T) (N : Nat) (ty : Nat → FieldType) : Prop := clAll[ci]? = some (C, T, N) ∧ (∀ w ∈ u_ws C T N, w ∈ lw_all) ∧ (∀ k, k < N → parseFieldDescriptor (T k).2.2.1 = some (ty k)) ∧ (∀ a, a < N → ∀ b, b < N → a ≠ b → (T a).2.1 ≠ (T b).2.1)
section HVR
variable {p : Program} {l : Launch} {e : Env} {R : Room} {s : State} {m : MethodId} {args : Array Value} {below : List Frame} {meth : Method} {c : Code} {H : Heap} {locs : List Loc} {cells slots : Nat} {Q : State → Prop}
variable {cc : ByteArray} {pc : Nat} {ls : Array Slot} {rest : List Value} {G : hG} {h : hp} {a : Nat} {own : String}
theorem hv_get (hx : p.tables.exec = Jvm.exec) (hb : c.code = cc) (hts : ∀ w ∈ lw_all, w.before args s = true) (hown : s.vm.findClass own = some m.cls) {ci N index : Nat} {C ref : String} {T : u_T} {ty : Nat → FieldType} (pk : hv_cls ci C T N ty) (hw : hv_W G s h H locs) {fs : List Value} (ha : h a = some (.inr (ci, fs))) (k : Nat) (hk : k < N) (hlink : (Cond.fieldLink own index ref (T k).2.1 (T k).2.2.1).before args s = true) (hsame : ∀ x, s.fieldFound? (T k).1 (T k).2.1 (T k).2.2.1 = some x → s.fieldFound? ref (T k).2.1 (T k).2.2.1 = some x) {v : Value} (hv : fs[k]? = some v) (hdg : decode cc pc = .ok (.getfield index, 3))
    (kk : W p l e R s m args below meth c H locs cells slots Q (F0 m (pc + 3) ls (v :: rest))) : W p l e R s m args below meth c H locs cells slots Q (F0 m pc ls (.ref a :: rest)) := by
  obtain ⟨r, r1, cell, q1, q2, q3, q4, q5, q6⟩ := hw.1 a _ ha
  have hr : r = (C, T, N) := Option.some.inj (r1.symm.trans pk.1)
  subst hr
  obtain ⟨hS, hfc, kC, hkC, hkind⟩ := hw.2.2.1.1.1 ci _ pk.1
  obtain ⟨cf, kf, fi, f, hi, hsl⟩ := hS k hk
  refine W.getf hx hb hown hlink (hsame _ hi) (u_facts hfc hkC (u_lays hts pk.2.1 hk) hi).1 q1 q4 (v := v) ?_ rfl rfl hdg kk
  rw [hsl, q6 k hk]
  simp [vp_V, hv]
theorem hv_getN (hx : p.tables.exec = Jvm.exec) (hb : c.code = cc) (hts : ∀ w ∈ lw_all, w.before args s = true) (hown : s.vm.findClass own = some m.cls) {ci N index : Nat} {C ref host : String} {T : u_T} {ty : Nat → FieldType} (pk : hv_cls ci C T N ty) (hw : hv_W G s h H locs) {fs : List Value} (ha : h a = some (.inr (ci, fs))) (k : Nat) (hk : k < N) (hlink : (Cond.fieldLinkNest own index ref (T k).2.1 (T k).2.2.1 host) ∈ lw_tbl) (hsame : ∀ x, s.fieldFound? (T k).1 (T k).2.1 (T k).2.2.1 = some x → s.fieldFound? ref (T k).2.1 (T k).2.2.1 = some x) {v : Value} (hv : fs[k]? = some v) (hdg : decode cc pc = .ok (.getfield index, 3))
    (kk : W p l e R s m args below meth c H locs cells slots Q (F0 m (pc + 3) ls (v :: rest))) : W p l e R s m args below meth c H locs cells slots Q (F0 m pc ls (.ref a :: rest)) := by
  obtain ⟨r, r1, cell, q1, q2, q3, q4, q5, q6⟩ := hw.1 a _ ha
  have hr : r = (C, T, N) := Option.some.inj (r1.symm.trans pk.1)
  subst hr
  obtain ⟨hS, hfc, kC, hkC, hkind⟩ := hw.2.2.1.1.1 ci _ pk.1
  obtain ⟨cf, kf, fi, f, hi, hsl⟩ := hS k hk
  refine va_Wgetf hx hb hown (hw.2.2.1.2.use hlink rfl) (hsame _ hi) (u_facts hfc hkC (u_lays hts pk.2.1 hk) hi).1 q1 q4 (v := v) ?_ rfl rfl hdg kk
  rw [hsl, q6 k hk]
  simp [vp_V, hv]
theorem hv_apart (hts : ∀ w ∈ lw_all, w.before args s = true) {ci N : Nat} {C : String} {T : u_T} {ty : Nat → FieldType} (pk : hv_cls ci C T N ty) (hw : hv_W G s h H locs) : ∀ x y, x < N → y < N → x ≠ y → (G.1.2 ci) x ≠ (G.1.2 ci) y :=
  va_apart (own := C) hts pk.2.1 ty pk.2.2.1 pk.2.2.2 hw.2.2.1.1 pk.1
theorem hv_objset {H1 : Heap} {ci N : Nat} {C : String} {T : u_T} {ty : Nat → FieldType} (pk : hv_cls ci C T N ty) (hap : ∀ x y, x < N → y < N → x ≠ y → (G.1.2 ci) x ≠ (G.1.2 ci) y) {fs : List Value} {cell : Cell} {k : Nat} (hk : k < N) (hl : k < fs.length) {v : Value} (q2 : cell.cls = G.1.1 ci) (q3 : cell.vm.isStatics = false) (q4 : cell.vm ≠ .unknown) (q5 : G.2.1 ≤ a → cell.vm = .none) (q6 : ∀ j : Nat, j < N → cell.slots[G.1.2 ci j]? = some (vp_V fs j)) (e1 : H1[a]? = some (cell.setSlot (G.1.2 ci k) v)) : hv_at G s H1 a (.inr (ci, fs.set k v)) := by
  refine ⟨(C, T, N), pk.1, _, e1, q2, q3, q4, q5, fun j hj => ?_⟩
  rw [t_set (V := vp_V fs) q6 hap hk v j hj]
  rw [vp_updV_set hl v j]
theorem hv_put (hx : p.tables.exec = Jvm.exec) (hb : c.code = cc) (hts : ∀ w ∈ lw_all, w.before args s = true) (hown : s.vm.findClass own = some m.cls) {ci N index : Nat} {C ref : String} {T : u_T} {ty : Nat → FieldType} (pk : hv_cls ci C T N ty) (hw : hv_W G s h H locs) {fs : List Value} (ha : h a = some (.inr (ci, fs))) (hab : G.2.1 ≤ a) (k : Nat) (hk : k < N) (hlink : (Cond.fieldLink own index ref (T k).2.1 (T k).2.2.1).before args s = true) (hsame : ∀ x, s.fieldFound? (T k).1 (T k).2.1 (T k).2.2.1 = some x → s.fieldFound? ref (T k).2.1 (T k).2.2.1 = some x) (hfin : (T k).2.2.2 = false) {v : Value} (hn : narrow (ty k) v = v) (hfit : fits (ty k) v = true) (hl : k < fs.length) (hdg : decode cc pc = .ok (.putfield index, 3))
    (kk : ∀ (h1 : hp) (H1 : Heap) (locs1 : List Loc), hv_up h a (.inr (ci, fs.set k v)) h1 → hv_W G s h1 H1 locs1 → W p l e R s m args below meth c H1 locs1 cells slots Q (F0 m (pc + 3) ls rest)) : W p l e R s m args below meth c H locs cells slots Q (F0 m pc ls (v :: .ref a :: rest)) := by
  have hap := hv_apart hts pk hw
  obtain ⟨r, r1, cell, q1, q2, q3, q4, q5, q6⟩ := hw.1 a _ ha
  have hr : r = (C, T, N) := Option.some.inj (r1.symm.trans pk.1)
  subst hr
  obtain ⟨hS, hfc, kC, hkC, hkind⟩ := hw.2.2.1.1.1 ci _ pk.1
  obtain ⟨cf, kf, fi, f, hi, hsl⟩ := hS k hk
  have hlay := hts _ (pk.2.1 _ (u_in_lay hk))
  unfold u_lay at hlay
  rw [if_neg (by rw [hfin]; decide)] at hlay
  have hst := (u_facts hfc hkC (u_lays hts pk.2.1 hk) hi).1
  have h6 := u_store hfc hkC hkind hlay hi (pk.2.2.1 k hk) hn hfit
  refine W.putK hx hb (f := f) ⟨hown, hlink, ⟨_, _, _, hsame _ hi⟩, hst⟩ (by rw [q2]; exact h6) q1 (q5 hab) (by rw [hsl]; exact k2_hasslot (q6 k hk)) rfl rfl hdg fun H' e1 e2 e3 => ?_
  rw [hsl] at e1 ⊢
  exact kk _ H' _ ⟨va_up_self .., fun b hb => va_up_ne _ _ hb⟩ (hw.put hab (hv_objset pk hap hk hl q2 q3 q4 q5 q6 e1) e2 e3)
theorem hv_putN (hx : p.tables.exec = Jvm.exec) (hb : c.code = cc) (hts : ∀ w ∈ lw_all, w.before args s = true) (hown : s.vm.findClass own = some m.cls) {ci N index : Nat} {C ref host : String} {T : u_T} {ty : Nat → FieldType} (pk : hv_cls ci C T N ty) (hw : hv_W G s h H locs) {fs : List Value} (ha : h a = some (.inr (ci, fs))) (hab : G.2.1 ≤ a) (k : Nat) (hk : k < N) (hlink : (Cond.fieldLinkNest own index ref (T k).2.1 (T k).2.2.1 host) ∈ lw_tbl) (hsame : ∀ x, s.fieldFound? (T k).1 (T k).2.1 (T k).2.2.1 = some x → s.fieldFound? ref (T k).2.1 (T k).2.2.1 = some x) (hfin : (T k).2.2.2 = false) {v : Value} (hn : narrow (ty k) v = v) (hfit : fits (ty k) v = true) (hl : k < fs.length) (hdg : decode cc pc = .ok (.putfield index, 3))
    (kk : ∀ (h1 : hp) (H1 : Heap) (locs1 : List Loc), hv_up h a (.inr (ci, fs.set k v)) h1 → hv_W G s h1 H1 locs1 → W p l e R s m args below meth c H1 locs1 cells slots Q (F0 m (pc + 3) ls rest)) : W p l e R s m args below meth c H locs cells slots Q (F0 m pc ls (v :: .ref a :: rest)) := by
  have hap := hv_apart hts pk hw
  obtain ⟨r, r1, cell, q1, q2, q3, q4, q5, q6⟩ := hw.1 a _ ha
  have hr : r = (C, T, N) := Option.some.inj (r1.symm.trans pk.1)
  subst hr
  obtain ⟨hS, hfc, kC, hkC, hkind⟩ := hw.2.2.1.1.1 ci _ pk.1
  obtain ⟨cf, kf, fi, f, hi, hsl⟩ := hS k hk
  have hlay := hts _ (pk.2.1 _ (u_in_lay hk))
  unfold u_lay at hlay
  rw [if_neg (by rw [hfin]; decide)] at hlay
  have hst := (u_facts hfc hkC (u_lays hts pk.2.1 hk) hi).1
  have h6 := u_store hfc hkC hkind hlay hi (pk.2.2.1 k hk) hn hfit
  refine va_WputK hx hb (f := f) hown (hw.2.2.1.2.use hlink rfl) (hsame _ hi) hst (by rw [q2]; exact h6) q1 (q5 hab) (by rw [hsl]; exact k2_hasslot (q6 k hk)) rfl rfl hdg fun H' e1 e2 e3 => ?_
  rw [hsl] at e1 ⊢
  exact kk _ H' _ ⟨va_up_self .., fun b hb => va_up_ne _ _ hb⟩ (hw.put hab (hv_objset pk hap hk hl q2 q3 q4 q5 q6 e1) e2 e3)
theorem hv_putF (hx : p.tables.exec = Jvm.exec) (hb : c.code = cc) (hts : ∀ w ∈ lw_all, w.before args s = true) (hown : s.vm.findClass own = some m.cls) {ci N index : Nat} {C ref : String} {T : u_T} {ty : Nat → FieldType} (pk : hv_cls ci C T N ty) (hw : hv_W G s h H locs) {fs : List Value} (ha : h a = some (.inr (ci, fs))) (hab : G.2.1 ≤ a) (k : Nat) (hk : k < N) (hlink : (Cond.fieldLink own index ref (T k).2.1 (T k).2.2.1).before args s = true) (hsame : ∀ x, s.fieldFound? (T k).1 (T k).2.1 (T k).2.2.1 = some x → s.fieldFound? ref (T k).2.1 (T k).2.2.1 = some x) (hfin : (T k).2.2.2 = true) (hin2 : meth.name = "<init>") (hdecl : (T k).1 = own) {v : Value} (hn : narrow (ty k) v = v) (hfit : fits (ty k) v = true) (hl : k < fs.length) (hdg : decode cc pc = .ok (.putfield index, 3))
    (kk : ∀ (h1 : hp) (H1 : Heap) (locs1 : List Loc), hv_up h a (.inr (ci, fs.set k v)) h1 → hv_W G s h1 H1 locs1 → W p l e R s m args below meth c H1 locs1 cells slots Q (F0 m (pc + 3) ls rest)) : W p l e R s m args below meth c H locs cells slots Q (F0 m pc ls (v :: .ref a :: rest)) := by
  have hap := hv_apart hts pk hw
  obtain ⟨r, r1, cell, q1, q2, q3, q4, q5, q6⟩ := hw.1 a _ ha
  have hr : r = (C, T, N) := Option.some.inj (r1.symm.trans pk.1)
  subst hr
  obtain ⟨hS, hfc, kC, hkC, hkind⟩ := hw.2.2.1.1.1 ci _ pk.1
  obtain ⟨cf, kf, fi, f, hi, hsl⟩ := hS k hk
  have hlay := hts _ (pk.2.1 _ (u_in_lay hk))
  unfold u_lay at hlay
  rw [if_pos hfin] at hlay
  have hst := (u_facts hfc hkC (u_lays hts pk.2.1 hk) hi).1
  have hcf : m.cls = cf := by
    obtain ⟨_, _, c', _, _, _, -, -, hf', -, -, -, hown2, -⟩ := Cond.laysFinal_spec hlay
    have e1 : c' = cf := by have := hi.symm.trans hf'; simp at this; exact this.1.symm
    rw [hdecl] at hown2
    rw [← e1]; exact Option.some.inj (hown.symm.trans hown2)
  have h6 := u_fits hfc hkC hkind (Or.inr hlay) hi (pk.2.2.1 k hk) hn hfit
  refine W.putFinK hx hb hown hlink (hsame _ hi) hst hcf hin2 (by rw [q2]; exact h6) q1 (q5 hab) (by rw [hsl]; exact k2_hasslot (q6 k hk)) rfl rfl hdg fun H' e1 e2 e3 => ?_
  rw [hsl] at e1 ⊢
  exact kk _ H' _ ⟨va_up_self .., fun b hb => va_up_ne _ _ hb⟩ (hw.put hab (hv_objset pk hap hk hl q2 q3 q4 q5 q6 e1) e2 e3)
theorem hv_recv (hw : hv_W G s h H locs) {ci N : Nat} {C : String} {T : u_T} {ty : Nat → FieldType} (pk : hv_cls ci C T N ty) {fs : List Value} (ha : h a = some (.inr (ci, fs))) : ∃ cell : Cell, H[a]? = some cell ∧ cell.vm.isStatics = false ∧ s.vm.findClass C = some cell.cls := by
  obtain ⟨r, r1, cell, q1, q2, q3, q4, q5, q6⟩ := hw.1 a _ ha
  exact ⟨cell, q1, q3, by rw [q2]; exact (hw.2.2.1.1.1 ci _ pk.1).2.1⟩
theorem hv_new (hx : p.tables.exec = Jvm.exec) (hb : c.code = cc) (hts : ∀ w ∈ lw_all, w.before args s = true) (hown : s.vm.findClass own = some m.cls) {ci N index : Nat} {C : String} {T : u_T} {ty : Nat → FieldType} (pk : hv_cls ci C T N ty) (hw : hv_W G s h H locs) (hcl : (Cond.classLink own index C).before args s = true) (hinst : (Cond.instantiable C N).before args s = true) (hini : (Cond.initialized C).before args s = true) (fs : List Value) (hfs : ∀ j, j < N → defaultValue (ty j) = vp_V fs j) (hcells : cells + 1 ≤ R.cells) (hslots : slots + N ≤ R.slots) (hdg : decode cc pc = .ok (.new index, 3))
    (kk : ∀ (q : Nat) (h1 : hp) (H1 : Heap), hv_nw h q (.inr (ci, fs)) h1 → G.2.1 ≤ q → hv_W G s h1 H1 locs → W p l e R s m args below meth c H1 locs (cells + 1) (slots + N) Q (F0 m (pc + 3) ls (.ref q :: rest))) : W p l e R s m args below meth c H locs cells slots Q (F0 m pc ls rest) := by
  have hKn := hw.2.2.1.1.1 ci _ pk.1
  refine W.newcK hx hb hown hcl hinst hini rfl hdg hcells hslots hKn.2.1 rfl fun H1 kC hkC e1 z1 o1 => ?_
  obtain ⟨cell, b1, b2, b3, b4⟩ := (u_born ty hts pk.2.1 hKn hkC e1 pk.2.2.1).to hfs
  obtain ⟨k1, k2⟩ := hw.new (e := .inr (ci, fs)) ⟨_, pk.1, cell, b1, b2, (by rw [b3]; rfl), (by rw [b3]; exact fun z => (by cases z)), fun _ => b3, b4⟩ (by omega) o1
  exact kk H.size _ H1 k2 hw.bs k1
theorem hv_newa (hx : p.tables.exec = Jvm.exec) (hb : c.code = cc) {atype : ArrayType} (harr : (Cond.arrayClass (newarray.typeOf atype)).before args s = true) (hw : hv_W G s h H locs) (k : Nat) (hk : k < 4) (hty : newarray.typeOf atype = hv_ty k) {n : Int32} {N' : Nat} (a0 : (Nat → Int32) ⊕ (Nat → Int64) ⊕ (Nat → UInt32) ⊕ (Nat → UInt64) ⊕ (Nat → Option Nat)) (ha : hv_av a0 = fun _ => defaultValue (hv_ty k)) (hn : ¬ n < 0) (hN : n.toNatClampNeg = N') (hbytes : N' * componentBytes (hv_ty k) ≤ 536870912) (hcells : cells + 1 ≤ R.cells) (hslots : slots + N' ≤ R.slots) (hdg : decode cc pc = .ok (.newarray atype, 2))
    (kk : ∀ (q : Nat) (h1 : hp) (H1 : Heap), hv_nw h q (.inl (k, (N', a0))) h1 → G.2.1 ≤ q → hv_W G s h1 H1 locs → W p l e R s m args below meth c H1 locs (cells + 1) (slots + N') Q (F0 m (pc + 2) ls (.ref q :: rest))) : W p l e R s m args below meth c H locs cells slots Q (F0 m pc ls (.int n :: rest)) := by
  refine va_newaK hx hb harr rfl hdg rfl hn hN (by rw [hty]; exact hbytes) hcells hslots rfl fun H1 cA e1 z1 o1 hAr hNm => ?_
  have hcA : cA = G.2.2.1 k := by
    have hK := hw.2.2.1.1.2
    rw [hty] at hNm
    match k, hk with
    | 0, _ => exact Option.some.inj (hNm.symm.trans (hK 0 _ rfl).2)
    | 1, _ => exact Option.some.inj (hNm.symm.trans (hK 1 _ rfl).2)
    | 2, _ => exact Option.some.inj (hNm.symm.trans (hK 2 _ rfl).2)
    | 3, _ => exact Option.some.inj (hNm.symm.trans (hK 3 _ rfl).2)
  obtain ⟨k1, k2⟩ := hw.new (H1 := H1) (e := .inl (k, (N', a0))) (Or.inl ⟨hw.bs, by rw [e1, hv_cell, hcA, hty]; show _ = some (arrV _ N' (hv_av a0)); rw [ha]⟩) (by omega) o1
  exact kk H.size _ H1 k2 hw.bs k1
end HVR
theorem hv_tyAt (G : hG) {k : Nat} (hk : k < 5) : (hv_tys G)[k]? = some (G.2.2.1 k, hv_ty k) := by
  match k, hk with
  | 0, _ => rfl
  | 1, _ => rfl
  | 2, _ => rfl
  | 3, _ => rfl
  | 4, _ => rfl
/-- an array, as the machine's rows want it -/
theorem hv_W.arr {G : hG} {s : State} {h : hp} {H : Heap} {locs : List Loc} (hw : hv_W G s h H locs) {a k : Nat} (hk : k < 5) {x : vp_A} (ha : h a = some (.inl (k, x))) : ∃ cell : Cell, H[a]? = some cell ∧ s.isArrayOf cell (hv_ty k) ∧ cell.vm ≠ .unknown ∧ cell.slots.size = x.1 ∧ ∀ j : Nat, j < x.1 → cell.slots[j]? = some (hv_av x.2 j) := by
  rcases hw.1 a _ ha with ⟨h0, h1⟩ | ⟨h0, h1⟩
  · rw [hv_cell] at h1
    refine ⟨_, h1, ((hw.2.2.1.1.2 k _ (hv_tyAt G hk)).1 x.1 (hv_av x.2)), (fun q => by cases q), arrV_size _ _ _, fun j hj => arrV_read _ _ hj⟩
  · exact h1
theorem hv_W.own {G : hG} {s : State} {h : hp} {H : Heap} {locs : List Loc} (hw : hv_W G s h H locs) {a k : Nat} {x : vp_A} (ha : h a = some (.inl (k, x))) (hb : G.2.1 ≤ a) : H[a]? = some (arrV (G.2.2.1 k) x.1 (hv_av x.2)) := by
  rcases hw.1 a _ ha with ⟨h0, h1⟩ | ⟨h0, h1⟩
  · rw [← hv_cell]; exact h1
  · exact absurd hb (Nat.not_le.mpr h0)
section HVA
variable {p : Program} {l : Launch} {e : Env} {R : Room} {s : State} {m : MethodId} {args : Array Value} {below : List Frame} {meth : Method} {c : Code} {H : Heap} {locs : List Loc} {cells slots : Nat} {Q : State → Prop}
variable {cc : ByteArray} {pc : Nat} {ls : Array Slot} {rest : List Value} {G : hG} {h : hp} {a : Nat} {own : String}
theorem hv_alen (hx : p.tables.exec = Jvm.exec) (hb : c.code = cc) (hw : hv_W G s h H locs) {k : Nat} {x : vp_A} (ha : h a = some (.inl (k, x))) (hk : k < 5) {v : Int32} (hv : nI x.1 = v) (hdg : decode cc pc = .ok (.arraylength, 1))
    (kk : W p l e R s m args below meth c H locs cells slots Q (F0 m (pc + 1) ls (.int v :: rest))) : W p l e R s m args below meth c H locs cells slots Q (F0 m pc ls (.ref a :: rest)) := by
  obtain ⟨cell, q1, q2, q3, q4, q5⟩ := hw.arr hk ha
  subst hv
  exact W.alen (n := Int32.ofNat x.1) hx hb q1 q2 (by rw [q4] <;> rfl) rfl rfl hdg kk
theorem hv_iald (hx : p.tables.exec = Jvm.exec) (hb : c.code = cc) (hw : hv_W G s h H locs) {n : Nat} {f : Nat → Int32} (ha : h a = some (.inl (0, (n, .inl f)))) {i : Int32} {j : Nat} (hi : i = nI j) (hj : j < n) (hn : n < 2 ^ 31) (hdg : decode cc pc = .ok (.iaload, 1))
    (kk : W p l e R s m args below meth c H locs cells slots Q (F0 m (pc + 1) ls (.int (f j) :: rest))) : W p l e R s m args below meth c H locs cells slots Q (F0 m pc ls (.int i :: .ref a :: rest)) := by
  obtain ⟨cell, q1, q2, q3, q4, q5⟩ := hw.arr (by decide) ha
  subst hi
  exact W.iald (v := .int (f j)) hx hb q1 q2 q3 (by rw [q4]; exact vp_in_nI hj hn) (by rw [nI_clamp (Nat.lt_trans hj hn)]; exact q5 j hj) rfl rfl hdg kk
theorem hv_bald (hx : p.tables.exec = Jvm.exec) (hb : c.code = cc) (hw : hv_W G s h H locs) {n : Nat} {f : Nat → Int32} (ha : h a = some (.inl (3, (n, .inl f)))) {i : Int32} {j : Nat} (hi : i = nI j) (hj : j < n) (hn : n < 2 ^ 31) (hdg : decode cc pc = .ok (.baload, 1))
    (kk : W p l e R s m args below meth c H locs cells slots Q (F0 m (pc + 1) ls (.int (f j) :: rest))) : W p l e R s m args below meth c H locs cells slots Q (F0 m pc ls (.int i :: .ref a :: rest)) := by
  obtain ⟨cell, q1, q2, q3, q4, q5⟩ := hw.arr (by decide) ha
  subst hi
  exact W.bald (v := .int (f j)) hx hb q1 q2 q3 (by rw [q4]; exact vp_in_nI hj hn) (by rw [nI_clamp (Nat.lt_trans hj hn)]; exact q5 j hj) rfl rfl hdg kk
theorem hv_lald (hx : p.tables.exec = Jvm.exec) (hb : c.code = cc) (hw : hv_W G s h H locs) {n : Nat} {f : Nat → Int64} (ha : h a = some (.inl (1, (n, .inr (.inl f))))) {i : Int32} {j : Nat} (hi : i = nI j) (hj : j < n) (hn : n < 2 ^ 31) (hdg : decode cc pc = .ok (.laload, 1))
    (kk : W p l e R s m args below meth c H locs cells slots Q (F0 m (pc + 1) ls (.long (f j) :: rest))) : W p l e R s m args below meth c H locs cells slots Q (F0 m pc ls (.int i :: .ref a :: rest)) := by
  obtain ⟨cell, q1, q2, q3, q4, q5⟩ := hw.arr (by decide) ha
  subst hi
  exact W.lald (v := .long (f j)) hx hb q1 q2 q3 (by rw [q4]; exact vp_in_nI hj hn) (by rw [nI_clamp (Nat.lt_trans hj hn)]; exact q5 j hj) rfl rfl hdg kk
theorem hv_aald (hx : p.tables.exec = Jvm.exec) (hb : c.code = cc) (hw : hv_W G s h H locs) {n : Nat} {f : Nat → Option Nat} (ha : h a = some (.inl (4, (n, .inr (.inr (.inr (.inr f))))))) {i : Int32} {j : Nat} (hi : i = nI j) (hj : j < n) (hn : n < 2 ^ 31) (hdg : decode cc pc = .ok (.aaload, 1))
    (kk : W p l e R s m args below meth c H locs cells slots Q (F0 m (pc + 1) ls (va_rf (f j) :: rest))) : W p l e R s m args below meth c H locs cells slots Q (F0 m pc ls (.int i :: .ref a :: rest)) := by
  obtain ⟨cell, q1, q2, q3, q4, q5⟩ := hw.arr (by decide) ha
  subst hi
  exact W.aald (v := va_rf (f j)) (ty := .object "java/lang/Object") hx hb q1 q2 rfl q3 (by rw [q4]; exact vp_in_nI hj hn) (by rw [nI_clamp (Nat.lt_trans hj hn)]; exact q5 j hj) rfl rfl hdg kk
theorem hv_arrset {H1 : Heap} {G : hG} {s : State} {k n : Nat} {x y : (Nat → Int32) ⊕ (Nat → Int64) ⊕ (Nat → UInt32) ⊕ (Nat → UInt64) ⊕ (Nat → Option Nat)} {j : Nat} {v : Value} (hab : G.2.1 ≤ a) (e1 : H1[a]? = some ((arrV (G.2.2.1 k) n (hv_av x)).setSlot j v)) (hy : updV (hv_av x) j v = hv_av y) : hv_at G s H1 a (.inl (k, (n, y))) := by
  refine Or.inl ⟨hab, ?_⟩
  rw [hv_cell, e1, arrV_store, hy]
theorem hv_iast (hx : p.tables.exec = Jvm.exec) (hb : c.code = cc) (hw : hv_W G s h H locs) {n : Nat} {f : Nat → Int32} (ha : h a = some (.inl (0, (n, .inl f)))) (hab : G.2.1 ≤ a) {i x : Int32} {j : Nat} (hi : i = nI j) (hj : j < n) (hn : n < 2 ^ 31) (hdg : decode cc pc = .ok (.iastore, 1))
    (kk : ∀ (h1 : hp) (H1 : Heap) (locs1 : List Loc), hv_up h a (.inl (0, (n, .inl (upd f j x)))) h1 → hv_W G s h1 H1 locs1 → W p l e R s m args below meth c H1 locs1 cells slots Q (F0 m (pc + 1) ls rest)) : W p l e R s m args below meth c H locs cells slots Q (F0 m pc ls (.int x :: .int i :: .ref a :: rest)) := by
  subst hi
  refine W.iast hx hb (hw.own ha hab) ((hw.2.2.1.1.2 0 _ rfl).1 n _) (fun q => by cases q) (by rw [arrV_size]; exact vp_in_nI hj hn) rfl rfl hdg fun H1 e z oq => ?_
  rw [nI_clamp (Nat.lt_trans hj hn)] at e ⊢
  refine kk _ H1 _ ⟨va_up_self .., fun b hb => va_up_ne _ _ hb⟩ (hw.put hab (hv_arrset (k := 0) (x := .inl f) hab e ?_) z oq)
  funext q
  by_cases hq : q = j
  · subst hq
    simp [updV, upd, hv_av]
  · simp [updV, upd, hv_av, hq]
theorem hv_bast (hx : p.tables.exec = Jvm.exec) (hb : c.code = cc) (hw : hv_W G s h H locs) {n : Nat} {f : Nat → Int32} (ha : h a = some (.inl (3, (n, .inl f)))) (hab : G.2.1 ≤ a) {i x : Int32} {j : Nat} (hi : i = nI j) (hj : j < n) (hn : n < 2 ^ 31) (hdg : decode cc pc = .ok (.bastore, 1))
    (kk : ∀ (h1 : hp) (H1 : Heap) (locs1 : List Loc), hv_up h a (.inl (3, (n, .inl (upd f j x.toInt8.toInt32)))) h1 → hv_W G s h1 H1 locs1 → W p l e R s m args below meth c H1 locs1 cells slots Q (F0 m (pc + 1) ls rest)) : W p l e R s m args below meth c H locs cells slots Q (F0 m pc ls (.int x :: .int i :: .ref a :: rest)) := by
  subst hi
  refine W.bast hx hb (hw.own ha hab) ((hw.2.2.1.1.2 3 _ rfl).1 n _) (fun q => by cases q) (by rw [arrV_size]; exact vp_in_nI hj hn) rfl rfl hdg fun H1 e z oq => ?_
  rw [nI_clamp (Nat.lt_trans hj hn)] at e ⊢
  refine kk _ H1 _ ⟨va_up_self .., fun b hb => va_up_ne _ _ hb⟩ (hw.put hab (hv_arrset (k := 3) (x := .inl f) hab e ?_) z oq)
  funext q
  by_cases hq : q = j
  · subst hq
    simp [updV, upd, hv_av]
    try rfl
  · simp [updV, upd, hv_av, hq]
theorem hv_last (hx : p.tables.exec = Jvm.exec) (hb : c.code = cc) (hw : hv_W G s h H locs) {n : Nat} {f : Nat → Int64} (ha : h a = some (.inl (1, (n, .inr (.inl f))))) (hab : G.2.1 ≤ a) {i : Int32} {x : Int64} {j : Nat} (hi : i = nI j) (hj : j < n) (hn : n < 2 ^ 31) (hdg : decode cc pc = .ok (.lastore, 1))
    (kk : ∀ (h1 : hp) (H1 : Heap) (locs1 : List Loc), hv_up h a (.inl (1, (n, .inr (.inl (vp_updL f j x))))) h1 → hv_W G s h1 H1 locs1 → W p l e R s m args below meth c H1 locs1 cells slots Q (F0 m (pc + 1) ls rest)) : W p l e R s m args below meth c H locs cells slots Q (F0 m pc ls (.long x :: .int i :: .ref a :: rest)) := by
  subst hi
  refine W.last hx hb (hw.own ha hab) ((hw.2.2.1.1.2 1 _ rfl).1 n _) (fun q => by cases q) (by rw [arrV_size]; exact vp_in_nI hj hn) rfl rfl hdg fun H1 e z oq => ?_
  rw [nI_clamp (Nat.lt_trans hj hn)] at e ⊢
  refine kk _ H1 _ ⟨va_up_self .., fun b hb => va_up_ne _ _ hb⟩ (hw.put hab (hv_arrset (k := 1) (x := .inr (.inl f)) hab e ?_) z oq)
  funext q
  by_cases hq : q = j
  · subst hq
    simp [updV, vp_updL, hv_av]
  · simp [updV, vp_updL, hv_av, hq]
/-- what may be stored in an Object[] -/
def hv_any (s : State) (H : Heap) (a : Nat) : Prop := va_Any "java/lang/Object" s H a
theorem hv_anyO {s : State} {G : hG} {h : hp} {H : Heap} {locs : List Loc} (hw : hv_W G s h H locs) {a ci : Nat} {fs : List Value} (ha : h a = some (.inr (ci, fs))) {r : vw_C} (hr : clAll[ci]? = some r) (hc : Cond.castable r.1 "java/lang/Object" ∈ lw_tbl) : hv_any s H a := by
  obtain ⟨r', r1, cell, q1, q2, q3, q4, q5, q6⟩ := hw.1 a _ ha
  cases r1.symm.trans hr
  have hf := (hw.2.2.1.1.1 ci _ hr).2.1
  obtain ⟨kC, hkC, -⟩ := Vm.findClass_spec hf
  obtain ⟨c0, t1, f1, f2, f3⟩ := Cond.castable_spec (hw.2.2.1.2.use (args := #[]) hc rfl)
  refine ⟨cell, q1, q3, ⟨kC, by rw [q2]; exact hkC⟩, fun comp h9 => ?_⟩
  cases hf.symm.trans f1
  cases h9.symm.trans f2
  rw [q2]; exact f3
theorem hv_aast (hx : p.tables.exec = Jvm.exec) (hb : c.code = cc) (hw : hv_W G s h H locs) {n v : Nat} {f : Nat → Option Nat} (ha : h a = some (.inl (4, (n, .inr (.inr (.inr (.inr f))))))) (hab : G.2.1 ≤ a) (hr : hv_any s H v) {i : Int32} {j : Nat} (hi : i = nI j) (hj : j < n) (hn : n < 2 ^ 31) (hdg : decode cc pc = .ok (.aastore, 1))
    (kk : ∀ (h1 : hp) (H1 : Heap) (locs1 : List Loc), hv_up h a (.inl (4, (n, .inr (.inr (.inr (.inr (va_up f j (some v)))))))) h1 → hv_W G s h1 H1 locs1 → W p l e R s m args below meth c H1 locs1 cells slots Q (F0 m (pc + 1) ls rest)) : W p l e R s m args below meth c H locs cells slots Q (F0 m pc ls (.ref v :: .int i :: .ref a :: rest)) := by
  subst hi
  obtain ⟨cellV, g1, g3, ⟨kC, hkC⟩, hasg⟩ := hr
  obtain ⟨kA, comp, k1, k2, k3, -⟩ := (hw.2.2.1.1.2 4 _ rfl).2
  obtain ⟨kE, hkE, -⟩ := Vm.findClass_spec k3
  refine W.aast hx hb (hw.own ha hab) (fun q h => by cases h) (fun h => by cases h) k1 k2 rfl hkE ⟨nI_pos (Nat.lt_trans hj hn), by rw [arrV_size, nI_clamp (Nat.lt_trans hj hn)]; exact hj⟩ g1 (fun q h => by rw [h] at g3; cases g3) hkC (hasg _ k3) rfl rfl hdg fun H1 e z oq => ?_
  rw [nI_clamp (Nat.lt_trans hj hn)] at e ⊢
  refine kk _ H1 _ ⟨va_up_self .., fun b hb => va_up_ne _ _ hb⟩ (hw.put hab (hv_arrset (k := 4) (x := .inr (.inr (.inr (.inr f)))) hab e ?_) z oq)
  funext q
  by_cases hq : q = j
  · subst hq
    simp [updV, va_up, va_rf, hv_av]
  · simp [updV, va_up, hv_av, hq]
theorem hv_aastN (hx : p.tables.exec = Jvm.exec) (hb : c.code = cc) (hw : hv_W G s h H locs) {n : Nat} {f : Nat → Option Nat} (ha : h a = some (.inl (4, (n, .inr (.inr (.inr (.inr f))))))) (hab : G.2.1 ≤ a) {i : Int32} {j : Nat} (hi : i = nI j) (hj : j < n) (hn : n < 2 ^ 31) (hdg : decode cc pc = .ok (.aastore, 1))
    (kk : ∀ (h1 : hp) (H1 : Heap) (locs1 : List Loc), hv_up h a (.inl (4, (n, .inr (.inr (.inr (.inr (va_up f j none))))))) h1 → hv_W G s h1 H1 locs1 → W p l e R s m args below meth c H1 locs1 cells slots Q (F0 m (pc + 1) ls rest)) : W p l e R s m args below meth c H locs cells slots Q (F0 m pc ls (.null :: .int i :: .ref a :: rest)) := by
  subst hi
  refine va_WaastN (C := "java/lang/Object") hx hb (hw.own ha hab) ((hw.2.2.1.1.2 4 _ rfl).1 n _) (fun h => by cases h) (by rw [arrV_size]; exact vp_in_nI hj hn) rfl rfl hdg fun H1 e z oq => ?_
  rw [nI_clamp (Nat.lt_trans hj hn)] at e ⊢
  refine kk _ H1 _ ⟨va_up_self .., fun b hb => va_up_ne _ _ hb⟩ (hw.put hab (hv_arrset (k := 4) (x := .inr (.inr (.inr (.inr f)))) hab e ?_) z oq)
  funext q
  by_cases hq : q = j
  · subst hq
    simp [updV, va_up, va_rf, hv_av]
  · simp [updV, va_up, hv_av, hq]
theorem hv_newq (hx : p.tables.exec = Jvm.exec) (hb : c.code = cc) (hown : s.vm.findClass own = some m.cls) {index : Nat} (hw : hv_W G s h H locs) (hclink : (Cond.classLink own index "java/lang/Object").before args s = true) {n : Int32} {N' : Nat} (hn : ¬ n < 0) (hN : n.toNatClampNeg = N') (hbytes : N' * 4 ≤ 536870912) (hcells : cells + 1 ≤ R.cells) (hslots : slots + N' ≤ R.slots) (hdg : decode cc pc = .ok (.anewarray index, 3))
    (kk : ∀ (q : Nat) (h1 : hp) (H1 : Heap), hv_nw h q (.inl (4, (N', .inr (.inr (.inr (.inr (fun _ => none))))))) h1 → G.2.1 ≤ q → hv_W G s h1 H1 locs → W p l e R s m args below meth c H1 locs (cells + 1) (slots + N') Q (F0 m (pc + 3) ls (.ref q :: rest))) : W p l e R s m args below meth c H locs cells slots Q (F0 m pc ls (.int n :: rest)) := by
  subst hN
  refine W.anew hx hb hown hclink (va_AO.use hw.2.2.1.2.2.2) rfl hdg rfl hn hbytes hcells hslots fun cA kA comp f1 f2 f3 f4 => ?_
  generalize hH1 : H.push ({ cls := cA, slots := Array.replicate n.toNatClampNeg .null, vm := .none } : Cell) = H1
  have z1 : H1.size = H.size + 1 := by rw [← hH1, Array.size_push]
  have e1 : H1[H.size]? = some (arrV cA n.toNatClampNeg (fun _ => .null)) := by rw [← hH1, Array.getElem?_push_size, ← arrV_new]
  have o1 : ∀ q : Nat, q < H.size → H1[q]? = H[q]? := fun q hq => by rw [← hH1, Array.getElem?_push, if_neg (Nat.ne_of_lt hq)]
  have hcA : cA = G.2.2.1 4 := by
    obtain ⟨kA', comp', g1, g2, g3, g4⟩ := (hw.2.2.1.1.2 4 _ rfl).2
    exact Option.some.inj (f1.symm.trans g4)
  obtain ⟨k1, k2⟩ := hw.new (H1 := H1) (e := .inl (4, (n.toNatClampNeg, .inr (.inr (.inr (.inr (fun _ => none))))))) (Or.inl ⟨hw.bs, by rw [e1, hv_cell, hcA]; rfl⟩) (by omega) o1
  exact kk H.size _ H1 k2 hw.bs k1
theorem hv_gets (hx : p.tables.exec = Jvm.exec) (hb : c.code = cc) (hown : s.vm.findClass own = some m.cls) (hw : hv_W G s h H locs) (k : Nat) {C n d ref : String} {v : Value} {index : Nat} (hz : (hv_zs G.2.2.2.1)[k]? = some (C, n, d, v)) (hlink : (Cond.fieldLink own index ref n d).before args s = true) (hsame : ∀ x, s.fieldFound? C n d = some x → s.fieldFound? ref n d = some x) (hdg : decode cc pc = .ok (.getstatic index, 3))
    (kk : W p l e R s m args below meth c H locs cells slots Q (F0 m (pc + 3) ls (v :: rest))) : W p l e R s m args below meth c H locs cells slots Q (F0 m pc ls rest) :=
  va_gets hx hb (hw.2.2.2.1.1 _ (List.mem_of_getElem? hz)) hw.2.1 hown hlink hsame hdg kk
theorem hv_ldcS (hx : p.tables.exec = Jvm.exec) (hb : c.code = cc) (hown : s.vm.findClass own = some m.cls) (hw : hv_W G s h H locs) (k : Nat) {tx : String} {q index : Nat} (hz : (hv_strs G.2.2.2.1)[k]? = some (own, index, tx, q)) (hdg : decode cc pc = .ok (.ldc index, 2))
    (kk : W p l e R s m args below meth c H locs cells slots Q (F0 m (pc + 2) ls (.ref q :: rest))) : W p l e R s m args below meth c H locs cells slots Q (F0 m pc ls rest) :=
  va_ldcS hx hb hown (hw.2.2.2.1.2.2.2 _ (List.mem_of_getElem? hz)) hdg kk
end HVA
/-- contracts: from the world h with the arguments av; what is answered, and the world behind it -/
abbrev hv_Pc (G : hG) (h : hp) (av : List Value) : Array Value → State → Prop := va_Pc av (fun U => hv_W G U h U.heap [])
abbrev hv_Mi (l : Launch) (G : hG) (y : MethodName) (ws : List Cond) (rm : Room) (av : List Value) (h : hp) (post : Int32 → hp → Prop) : Prop := Met l y ws rm (hv_Pc G h av) (va_Qi post (hv_O G) (hv_A G)) rm.cells rm.slots (hv_A G)
abbrev hv_Ml (l : Launch) (G : hG) (y : MethodName) (ws : List Cond) (rm : Room) (av : List Value) (h : hp) (post : Int64 → hp → Prop) : Prop := Met l y ws rm (hv_Pc G h av) (va_Ql post (hv_O G) (hv_A G)) rm.cells rm.slots (hv_A G)
abbrev hv_Mf (l : Launch) (G : hG) (y : MethodName) (ws : List Cond) (rm : Room) (av : List Value) (h : hp) (post : UInt32 → hp → Prop) : Prop := Met l y ws rm (hv_Pc G h av) (va_Qf post (hv_O G) (hv_A G)) rm.cells rm.slots (hv_A G)
abbrev hv_Md (l : Launch) (G : hG) (y : MethodName) (ws : List Cond) (rm : Room) (av : List Value) (h : hp) (post : UInt64 → hp → Prop) : Prop := Met l y ws rm (hv_Pc G h av) (va_Qd post (hv_O G) (hv_A G)) rm.cells rm.slots (hv_A G)
abbrev hv_Mv (l : Launch) (G : hG) (y : MethodName) (ws : List Cond) (rm : Room) (av : List Value) (h : hp) (post : hp → Prop) : Prop := Met l y ws rm (hv_Pc G h av) (va_Qv post (hv_O G) (hv_A G)) rm.cells rm.slots (hv_A G)
abbrev hv_Mq (l : Launch) (G : hG) (y : MethodName) (ws : List Cond) (rm : Room) (av : List Value) (h : hp) (post : Option Nat → hp → Prop) : Prop := Met l y ws rm (hv_Pc G h av) (va_Qq post (hv_O G) (hv_A G)) rm.cells rm.slots (hv_A G)
section HVC
variable {p : Program} {l : Launch} {e : Env} {R : Room} {s : State} {m : MethodId} {args : Array Value} {below : List Frame} {meth : Method} {c : Code} {H : Heap} {locs : List Loc} {cells slots : Nat} {Q : State → Prop}
variable {cc : ByteArray} {pc : Nat} {ls : Array Slot} {rest st0 : List Value} {G : hG} {h : hp} {a : Array Value} {mc ms : Nat}
theorem hv_preS {av : List Value} (hw : hv_W G s h H locs) : PreS s H (hv_Pc G h av) av := ⟨hv_blind, fun U hU hW => ⟨rfl, hw.enter hU hW⟩⟩
theorem hv_preV {b : Addr} {As : List Value} (hw : hv_W G s h H locs) {ci N : Nat} {C : String} {T : u_T} {ty : Nat → FieldType} (pk : hv_cls ci C T N ty) {fs : List Value} (ha : h b = some (.inr (ci, fs))) : PreV s H C b (hv_Pc G h (.ref b :: As)) As := ⟨hv_blind, hv_recv hw pk ha, fun U hU hW => ⟨rfl, hw.enter hU hW⟩⟩
theorem hv_calli {post : Int32 → hp → Prop} (hr : va_Run p l e R s m args below meth c H locs cells slots mc ms (F0 m pc ls st0) rest (va_Qi post (hv_O G) (hv_A G) a) (hv_A G)) (hw : hv_W G s h H locs)
    (kk : ∀ (r : Int32) (h1 : hp) (H1 : Heap) (locs1 : List Loc), post r h1 → hv_W G s h1 H1 locs1 → W p l e R s m args below meth c H1 locs1 (cells + mc) (slots + ms) Q (F0 m (pc + 3) ls (.int r :: rest))) : W p l e R s m args below meth c H locs cells slots Q (F0 m pc ls st0) :=
  va_calli hr hw.2.1 (fun _ _ z => z) (fun _ z => z) (fun r u _ H1 locs1 ht hvm hp hO _ _ hS => kk r u H1 locs1 hp (hw.back ht hvm hO hS))
theorem hv_calll {post : Int64 → hp → Prop} (hr : va_Run p l e R s m args below meth c H locs cells slots mc ms (F0 m pc ls st0) rest (va_Ql post (hv_O G) (hv_A G) a) (hv_A G)) (hw : hv_W G s h H locs)
    (kk : ∀ (r : Int64) (h1 : hp) (H1 : Heap) (locs1 : List Loc), post r h1 → hv_W G s h1 H1 locs1 → W p l e R s m args below meth c H1 locs1 (cells + mc) (slots + ms) Q (F0 m (pc + 3) ls (.long r :: rest))) : W p l e R s m args below meth c H locs cells slots Q (F0 m pc ls st0) :=
  va_calll hr hw.2.1 (fun _ _ z => z) (fun _ z => z) (fun r u _ H1 locs1 ht hvm hp hO _ _ hS => kk r u H1 locs1 hp (hw.back ht hvm hO hS))
theorem hv_callf {post : UInt32 → hp → Prop} (hr : va_Run p l e R s m args below meth c H locs cells slots mc ms (F0 m pc ls st0) rest (va_Qf post (hv_O G) (hv_A G) a) (hv_A G)) (hw : hv_W G s h H locs)
    (kk : ∀ (r : UInt32) (h1 : hp) (H1 : Heap) (locs1 : List Loc), post r h1 → hv_W G s h1 H1 locs1 → W p l e R s m args below meth c H1 locs1 (cells + mc) (slots + ms) Q (F0 m (pc + 3) ls (.float r :: rest))) : W p l e R s m args below meth c H locs cells slots Q (F0 m pc ls st0) :=
  va_callf hr hw.2.1 (fun _ _ z => z) (fun _ z => z) (fun r u _ H1 locs1 ht hvm hp hO _ _ hS => kk r u H1 locs1 hp (hw.back ht hvm hO hS))
theorem hv_calld {post : UInt64 → hp → Prop} (hr : va_Run p l e R s m args below meth c H locs cells slots mc ms (F0 m pc ls st0) rest (va_Qd post (hv_O G) (hv_A G) a) (hv_A G)) (hw : hv_W G s h H locs)
    (kk : ∀ (r : UInt64) (h1 : hp) (H1 : Heap) (locs1 : List Loc), post r h1 → hv_W G s h1 H1 locs1 → W p l e R s m args below meth c H1 locs1 (cells + mc) (slots + ms) Q (F0 m (pc + 3) ls (.double r :: rest))) : W p l e R s m args below meth c H locs cells slots Q (F0 m pc ls st0) :=
  va_calld hr hw.2.1 (fun _ _ z => z) (fun _ z => z) (fun r u _ H1 locs1 ht hvm hp hO _ _ hS => kk r u H1 locs1 hp (hw.back ht hvm hO hS))
theorem hv_callv {post : hp → Prop} (hr : va_Run p l e R s m args below meth c H locs cells slots mc ms (F0 m pc ls st0) rest (va_Qv post (hv_O G) (hv_A G) a) (hv_A G)) (hw : hv_W G s h H locs)
    (kk : ∀ (h1 : hp) (H1 : Heap) (locs1 : List Loc), post h1 → hv_W G s h1 H1 locs1 → W p l e R s m args below meth c H1 locs1 (cells + mc) (slots + ms) Q (F0 m (pc + 3) ls rest)) : W p l e R s m args below meth c H locs cells slots Q (F0 m pc ls st0) :=
  va_callv hr hw.2.1 (fun _ _ z => z) (fun _ z => z) (fun u _ H1 locs1 ht hvm hp hO _ _ hS => kk u H1 locs1 hp (hw.back ht hvm hO hS))
theorem hv_callq {post : Option Nat → hp → Prop} (hr : va_Run p l e R s m args below meth c H locs cells slots mc ms (F0 m pc ls st0) rest (va_Qq post (hv_O G) (hv_A G) a) (hv_A G)) (hw : hv_W G s h H locs)
    (kk : ∀ (r : Option Nat) (h1 : hp) (H1 : Heap) (locs1 : List Loc), post r h1 → hv_W G s h1 H1 locs1 → W p l e R s m args below meth c H1 locs1 (cells + mc) (slots + ms) Q (F0 m (pc + 3) ls (va_rf r :: rest))) : W p l e R s m args below meth c H locs cells slots Q (F0 m pc ls st0) :=
  va_callq hr hw.2.1 (fun _ _ z => z) (fun _ z => z) (fun r u _ H1 locs1 ht hvm hp hO _ _ hS => kk r u H1 locs1 hp (hw.back ht hvm hO hS))
/-- the ends -/
theorem hv_iret (hx : p.tables.exec = Jvm.exec) (hb : c.code = cc) (hr : meth.sig.returnType = some .int) (hlocks : meth.locks = false) {v : Int32} {post : Int32 → hp → Prop} (hw : hv_W G s h H locs) (hp : post v h) (hc : cells ≤ mc) (hs : slots ≤ ms) (hdg : decode cc pc = .ok (.ireturn, 1)) : W p l e R s m args below meth c H locs cells slots (MQ below (va_Qi post (hv_O G) (hv_A G)) args s mc ms (hv_A G)) (F0 m pc ls [.int v]) := by
  refine W.widen hc hs ?_
  exact W.iret hx hb hr (fun t ht hW => ⟨⟨v, h, rfl, hp, hw.out ht hW.alike⟩, hw.2.1.F ht⟩) hw.2.1.2.2 hdg (hlocks := hlocks)
theorem hv_zret (hx : p.tables.exec = Jvm.exec) (hb : c.code = cc) {rt : FieldType} (hr : meth.sig.returnType = some rt) (hlocks : meth.locks = false) {v : Int32} (hn : narrow rt (.int v) = .int v) {post : Int32 → hp → Prop} (hw : hv_W G s h H locs) (hp : post v h) (hc : cells ≤ mc) (hs : slots ≤ ms) (hdg : decode cc pc = .ok (.ireturn, 1)) : W p l e R s m args below meth c H locs cells slots (MQ below (va_Qi post (hv_O G) (hv_A G)) args s mc ms (hv_A G)) (F0 m pc ls [.int v]) := by
  refine W.widen hc hs ?_
  exact W.zret hx hb hr hn (fun t ht hW => ⟨⟨v, h, rfl, hp, hw.out ht hW.alike⟩, hw.2.1.F ht⟩) hw.2.1.2.2 hdg (hlocks := hlocks)
theorem hv_lret (hx : p.tables.exec = Jvm.exec) (hb : c.code = cc) (hr : meth.sig.returnType = some .long) (hlocks : meth.locks = false) {v : Int64} {post : Int64 → hp → Prop} (hw : hv_W G s h H locs) (hp : post v h) (hc : cells ≤ mc) (hs : slots ≤ ms) (hdg : decode cc pc = .ok (.lreturn, 1)) : W p l e R s m args below meth c H locs cells slots (MQ below (va_Ql post (hv_O G) (hv_A G)) args s mc ms (hv_A G)) (F0 m pc ls [.long v]) := by
  refine W.widen hc hs ?_
  exact W.lret hx hb hr (fun t ht hW => ⟨⟨v, h, rfl, hp, hw.out ht hW.alike⟩, hw.2.1.F ht⟩) hw.2.1.2.2 hdg (hlocks := hlocks)
theorem hv_fret (hx : p.tables.exec = Jvm.exec) (hb : c.code = cc) (hr : meth.sig.returnType = some .float) (hlocks : meth.locks = false) {v : UInt32} {post : UInt32 → hp → Prop} (hw : hv_W G s h H locs) (hp : post v h) (hc : cells ≤ mc) (hs : slots ≤ ms) (hdg : decode cc pc = .ok (.freturn, 1)) : W p l e R s m args below meth c H locs cells slots (MQ below (va_Qf post (hv_O G) (hv_A G)) args s mc ms (hv_A G)) (F0 m pc ls [.float v]) := by
  refine W.widen hc hs ?_
  exact W.fret hx hb hr (fun t ht hW => ⟨⟨v, h, rfl, hp, hw.out ht hW.alike⟩, hw.2.1.F ht⟩) hw.2.1.2.2 hdg (hlocks := hlocks)
theorem hv_dret (hx : p.tables.exec = Jvm.exec) (hb : c.code = cc) (hr : meth.sig.returnType = some .double) (hlocks : meth.locks = false) {v : UInt64} {post : UInt64 → hp → Prop} (hw : hv_W G s h H locs) (hp : post v h) (hc : cells ≤ mc) (hs : slots ≤ ms) (hdg : decode cc pc = .ok (.dreturn, 1)) : W p l e R s m args below meth c H locs cells slots (MQ below (va_Qd post (hv_O G) (hv_A G)) args s mc ms (hv_A G)) (F0 m pc ls [.double v]) := by
  refine W.widen hc hs ?_
  exact W.dret hx hb hr (fun t ht hW => ⟨⟨v, h, rfl, hp, hw.out ht hW.alike⟩, hw.2.1.F ht⟩) hw.2.1.2.2 hdg (hlocks := hlocks)
theorem hv_vret (hx : p.tables.exec = Jvm.exec) (hb : c.code = cc) (hr : meth.sig.returnType = none) (hlocks : meth.locks = false) {post : hp → Prop} (hw : hv_W G s h H locs) (hp : post h) (hc : cells ≤ mc) (hs : slots ≤ ms) (hdg : decode cc pc = .ok (.return_, 1)) : W p l e R s m args below meth c H locs cells slots (MQ below (va_Qv post (hv_O G) (hv_A G)) args s mc ms (hv_A G)) (F0 m pc ls []) := by
  refine W.widen hc hs ?_
  exact W.vret hx hb hr (fun t ht hW => ⟨⟨h, rfl, hp, hw.out ht hW.alike⟩, hw.2.1.F ht⟩) hw.2.1.2.2 hdg (hlocks := hlocks)
theorem hv_aret (hx : p.tables.exec = Jvm.exec) (hb : c.code = cc) {rt : FieldType} (hr : meth.sig.returnType = some rt) (hrt : (∃ n, rt = .object n) ∨ ∃ t, rt = .array t) (hlocks : meth.locks = false) {v : Value} (r : Option Nat) (hv : v = va_rf r) {post : Option Nat → hp → Prop} (hw : hv_W G s h H locs) (hp : post r h) (hc : cells ≤ mc) (hs : slots ≤ ms) (hdg : decode cc pc = .ok (.areturn, 1)) : W p l e R s m args below meth c H locs cells slots (MQ below (va_Qq post (hv_O G) (hv_A G)) args s mc ms (hv_A G)) (F0 m pc ls [v]) := by
  refine W.widen hc hs ?_
  exact W.aret hx hb hr hrt (by rw [hv]; cases r <;> first | exact Or.inl rfl | exact Or.inr ⟨_, rfl⟩) (fun t ht hW => ⟨⟨r, h, by rw [hv], hp, hw.out ht hW.alike⟩, hw.2.1.F ht⟩) hw.2.1.2.2 hdg (hlocks := hlocks)
end HVC
theorem pk_X1 : hv_cls 0 RX1 TX1 7 tyX1 := ⟨rfl, in_X1, tyX1_ok, nmX1⟩
theorem pk_X2 : hv_cls 1 RX2 TX2 7 tyX2 := ⟨rfl, in_X2, tyX2_ok, nmX2⟩
theorem pk_X3 : hv_cls 2 RX3 TX3 5 tyX3 := ⟨rfl, in_X3, tyX3_ok, nmX3⟩
theorem pk_X4 : hv_cls 3 RX4 TX4 2 tyX4 := ⟨rfl, in_X4, tyX4_ok, nmX4⟩
theorem pk_X5 : hv_cls 4 RX5 TX5 24 tyX5 := ⟨rfl, in_X5, tyX5_ok, nmX5⟩
theorem pk_X6 : hv_cls 5 RX6 TX6 5 tyX6 := ⟨rfl, in_X6, tyX6_ok, nmX6⟩
theorem pk_X7 : hv_cls 6 RX7 TX7 10 tyX7 := ⟨rfl, in_X7, tyX7_ok, nmX7⟩
theorem pk_X8 : hv_cls 7 RX8 TX8 2 tyX8 := ⟨rfl, in_X8, tyX8_ok, nmX8⟩
theorem pk_X9 : hv_cls 8 RX9 TX9 9 tyX9 := ⟨rfl, in_X9, tyX9_ok, nmX9⟩
theorem pk_X10 : hv_cls 9 RX10 TX10 2 tyX10 := ⟨rfl, in_X10, tyX10_ok, nmX10⟩
theorem pk_X11 : hv_cls 10 RX11 TX11 7 tyX11 := ⟨rfl, in_X11, tyX11_ok, nmX11⟩
theorem pk_J2 : hv_cls 11 RJ2 TJ2 3 tyJ2 := ⟨rfl, in_J2, tyJ2_ok, nmJ2⟩
theorem pk_J4 : hv_cls 12 RJ4 TJ4 4 tyJ4 := ⟨rfl, in_J4, tyJ4_ok, nmJ4⟩
theorem pk_J5 : hv_cls 13 RJ5 TJ5 3 tyJ5 := ⟨rfl, in_J5, tyJ5_ok, nmJ5⟩
theorem pk_J6 : hv_cls 14 RJ6 TJ6 3 tyJ6 := ⟨rfl, in_J6, tyJ6_ok, nmJ6⟩
theorem pk_J8 : hv_cls 15 RJ8 TJ8 4 tyJ8 := ⟨rfl, in_J8, tyJ8_ok, nmJ8⟩
theorem pk_J9 : hv_cls 16 RJ9 TJ9 4 tyJ9 := ⟨rfl, in_J9, tyJ9_ok, nmJ9⟩
theorem pk_J23 : hv_cls 17 RJ23 TJ23 4 tyJ23 := ⟨rfl, in_J23, tyJ23_ok, nmJ23⟩
theorem pk_J25 : hv_cls 18 RJ25 TJ25 5 tyJ25 := ⟨rfl, in_J25, tyJ25_ok, nmJ25⟩
theorem pk_J28 : hv_cls 19 RJ28 TJ28 3 tyJ28 := ⟨rfl, in_J28, tyJ28_ok, nmJ28⟩
theorem pk_J29 : hv_cls 20 RJ29 TJ29 4 tyJ29 := ⟨rfl, in_J29, tyJ29_ok, nmJ29⟩
