/-! ===== heads and ends of methods: the end is a hypothesis, so Q is a name ===== -/
set_option maxRecDepth 100000
def b01 (P : Prop) [Decidable P] : Int32 := if P then 1 else 0
theorem b01_0 {P : Prop} [Decidable P] : b01 P = 0 ↔ ¬ P := by unfold b01; by_cases h : P <;> simp [h]
theorem b01_t {P : Prop} [Decidable P] (h : P) : b01 P = 1 := by simp [b01, h]
theorem b01_f {P : Prop} [Decidable P] (h : ¬ P) : b01 P = 0 := by simp [b01, h]
theorem b01_n {P : Prop} [Decidable P] : ¬ b01 P = 0 ↔ P := by rw [b01_0]; exact Decidable.not_not
theorem b01_c {P Q : Prop} [Decidable P] [Decidable Q] (h : P ↔ Q) : b01 P = b01 Q := by unfold b01; by_cases hp : P <;> simp [hp, ← h]
theorem b01_z (P : Prop) [Decidable P] : narrow .boolean (.int (b01 P)) = .int (b01 P) := by unfold b01; by_cases h : P <;> simp [h] <;> rfl
def mx (x y : Int32) : Int32 := if x < y then y else x
def mn (x y : Int32) : Int32 := if y < x then y else x
section HVB
variable {l : Launch} {G : hG} {y : MethodName} {cc : ByteArray} {maxL : Nat} {ret : Option FieldType} {rm : Room} {av : List Value} {h : hp} {own : String}
theorem hv_body {Qc : Array Value → State → Outcome → State → Prop} (hy : plainName y.cls = true) (ho : y.cls = own) (hle : (lg_sl av).length ≤ maxL)
    (body : ∀ (p : Program) (e : Env) (s : State) (m : MethodId) (below : List Frame) (meth : Method) (c : Code) (ls : Array Slot), p.tables.exec = Jvm.exec → c.code = cc → meth.sig.returnType = ret → meth.locks = false → c.maxLocals = maxL → s.vm.findClass own = some m.cls → (∀ w ∈ lw_all, w.before av.toArray s = true) → meth.name = y.name → hv_W G s h s.heap [] → lv_has ls maxL (lv_args 0 av) →
      W p l e rm s m av.toArray below meth c s.heap [] 0 0 (MQ below Qc av.toArray s rm.cells rm.slots (hv_A G)) (F0 m 0 ls [])) : Met l y (ws_ y cc maxL ret) rm (hv_Pc G h av) Qc rm.cells rm.slots (hv_A G) := by
  refine Met.ofW (cc := cc) (maxL := maxL) (ret := ret) hy rfl ?_
  intro p e s m args below meth c s₁ B hml hv
  obtain ⟨rfl, hw⟩ := hv
  have hts := atoms_spec (ws := ws_ y cc maxL ret) B.pre
  have hl := lv_entry av (n := maxL) hle
  rw [lg_entry_eq]
  exact body p e s m below meth c _ B.exec B.bytes B.returns B.notSynchronized hml (ho ▸ findClass_of_methodNamed B.named) (fun w h => hts w (List.mem_cons_of_mem _ h)) (name_of_methodNamed B.named B.method).1 hw hl
abbrev hv_Bd (l : Launch) (G : hG) (y : MethodName) (cc : ByteArray) (maxL : Nat) (ret : Option FieldType) (rm : Room) (av : List Value) (h : hp) (own : String) (Ret : Program → Env → State → MethodId → Array Value → List Frame → Method → Code → (State → Prop) → Prop) : Prop :=
  ∀ (p : Program) (e : Env) (s : State) (m : MethodId) (a : Array Value) (below : List Frame) (meth : Method) (c : Code) (ls : Array Slot) (Q : State → Prop), p.tables.exec = Jvm.exec → c.code = cc → c.maxLocals = maxL → s.vm.findClass own = some m.cls → (∀ w ∈ lw_all, w.before a s = true) → meth.name = y.name → Ret p e s m a below meth c Q → hv_W G s h s.heap [] → lv_has ls maxL (lv_args 0 av) →
      W p l e rm s m a below meth c s.heap [] 0 0 Q (F0 m 0 ls [])
theorem hv_bi {post : Int32 → hp → Prop} (rt : FieldType) (hrt : rt = .int ∨ rt = .boolean ∨ rt = .char) (hy : plainName y.cls = true) (ho : y.cls = own) (hle : (lg_sl av).length ≤ maxL)
    (body : hv_Bd l G y cc maxL (some rt) rm av h own (fun p e s m a below meth c Q => ∀ {pc : Nat} {ls : Array Slot} {v : Int32} {h1 : hp} {H : Heap} {locs : List Loc} {C S : Nat}, narrow rt (.int v) = .int v → hv_W G s h1 H locs → post v h1 → C ≤ rm.cells → S ≤ rm.slots → decode cc pc = .ok (.ireturn, 1) → W p l e rm s m a below meth c H locs C S Q (F0 m pc ls [.int v]))) : hv_Mi l G y (ws_ y cc maxL (some rt)) rm av h post := by
  refine hv_body (own := own) hy ho hle fun p e s m below meth c ls hx hb hr hlocks hml hown hts hnm hw hl => ?_
  refine body p e s m _ below meth c ls _ hx hb hml hown hts hnm ?_ hw hl
  intro pc ls v h1 H locs C S hn hw hp hc hs hd
  exact hv_zret hx hb hr hlocks hn hw hp hc hs hd
theorem hv_bl {post : Int64 → hp → Prop} (hy : plainName y.cls = true) (ho : y.cls = own) (hle : (lg_sl av).length ≤ maxL)
    (body : hv_Bd l G y cc maxL (some .long) rm av h own (fun p e s m a below meth c Q => ∀ {pc : Nat} {ls : Array Slot} {v : Int64} {h1 : hp} {H : Heap} {locs : List Loc} {C S : Nat}, hv_W G s h1 H locs → post v h1 → C ≤ rm.cells → S ≤ rm.slots → decode cc pc = .ok (.lreturn, 1) → W p l e rm s m a below meth c H locs C S Q (F0 m pc ls [.long v]))) : hv_Ml l G y (ws_ y cc maxL (some .long)) rm av h post := by
  refine hv_body (own := own) hy ho hle fun p e s m below meth c ls hx hb hr hlocks hml hown hts hnm hw hl => ?_
  refine body p e s m _ below meth c ls _ hx hb hml hown hts hnm ?_ hw hl
  intro pc ls v h1 H locs C S hw hp hc hs hd
  exact hv_lret hx hb hr hlocks hw hp hc hs hd
theorem hv_bf {post : UInt32 → hp → Prop} (hy : plainName y.cls = true) (ho : y.cls = own) (hle : (lg_sl av).length ≤ maxL)
    (body : hv_Bd l G y cc maxL (some .float) rm av h own (fun p e s m a below meth c Q => ∀ {pc : Nat} {ls : Array Slot} {v : UInt32} {h1 : hp} {H : Heap} {locs : List Loc} {C S : Nat}, hv_W G s h1 H locs → post v h1 → C ≤ rm.cells → S ≤ rm.slots → decode cc pc = .ok (.freturn, 1) → W p l e rm s m a below meth c H locs C S Q (F0 m pc ls [.float v]))) : hv_Mf l G y (ws_ y cc maxL (some .float)) rm av h post := by
  refine hv_body (own := own) hy ho hle fun p e s m below meth c ls hx hb hr hlocks hml hown hts hnm hw hl => ?_
  refine body p e s m _ below meth c ls _ hx hb hml hown hts hnm ?_ hw hl
  intro pc ls v h1 H locs C S hw hp hc hs hd
  exact hv_fret hx hb hr hlocks hw hp hc hs hd
theorem hv_bd {post : UInt64 → hp → Prop} (hy : plainName y.cls = true) (ho : y.cls = own) (hle : (lg_sl av).length ≤ maxL)
    (body : hv_Bd l G y cc maxL (some .double) rm av h own (fun p e s m a below meth c Q => ∀ {pc : Nat} {ls : Array Slot} {v : UInt64} {h1 : hp} {H : Heap} {locs : List Loc} {C S : Nat}, hv_W G s h1 H locs → post v h1 → C ≤ rm.cells → S ≤ rm.slots → decode cc pc = .ok (.dreturn, 1) → W p l e rm s m a below meth c H locs C S Q (F0 m pc ls [.double v]))) : hv_Md l G y (ws_ y cc maxL (some .double)) rm av h post := by
  refine hv_body (own := own) hy ho hle fun p e s m below meth c ls hx hb hr hlocks hml hown hts hnm hw hl => ?_
  refine body p e s m _ below meth c ls _ hx hb hml hown hts hnm ?_ hw hl
  intro pc ls v h1 H locs C S hw hp hc hs hd
  exact hv_dret hx hb hr hlocks hw hp hc hs hd
theorem hv_bv {post : hp → Prop} (hy : plainName y.cls = true) (ho : y.cls = own) (hle : (lg_sl av).length ≤ maxL)
    (body : hv_Bd l G y cc maxL none rm av h own (fun p e s m a below meth c Q => ∀ {pc : Nat} {ls : Array Slot} {h1 : hp} {H : Heap} {locs : List Loc} {C S : Nat}, hv_W G s h1 H locs → post h1 → C ≤ rm.cells → S ≤ rm.slots → decode cc pc = .ok (.return_, 1) → W p l e rm s m a below meth c H locs C S Q (F0 m pc ls []))) : hv_Mv l G y (ws_ y cc maxL none) rm av h post := by
  refine hv_body (own := own) hy ho hle fun p e s m below meth c ls hx hb hr hlocks hml hown hts hnm hw hl => ?_
  refine body p e s m _ below meth c ls _ hx hb hml hown hts hnm ?_ hw hl
  intro pc ls h1 H locs C S hw hp hc hs hd
  exact hv_vret hx hb hr hlocks hw hp hc hs hd
theorem hv_bq {post : Option Nat → hp → Prop} (rt : FieldType) (hrt : (∃ n, rt = .object n) ∨ ∃ t, rt = .array t) (hy : plainName y.cls = true) (ho : y.cls = own) (hle : (lg_sl av).length ≤ maxL)
    (body : hv_Bd l G y cc maxL (some rt) rm av h own (fun p e s m a below meth c Q => ∀ {pc : Nat} {ls : Array Slot} {v : Value} {h1 : hp} {H : Heap} {locs : List Loc} {C S : Nat} (r : Option Nat), v = va_rf r → hv_W G s h1 H locs → post r h1 → C ≤ rm.cells → S ≤ rm.slots → decode cc pc = .ok (.areturn, 1) → W p l e rm s m a below meth c H locs C S Q (F0 m pc ls [v]))) : hv_Mq l G y (ws_ y cc maxL (some rt)) rm av h post := by
  refine hv_body (own := own) hy ho hle fun p e s m below meth c ls hx hb hr hlocks hml hown hts hnm hw hl => ?_
  refine body p e s m _ below meth c ls _ hx hb hml hown hts hnm ?_ hw hl
  intro pc ls v h1 H locs C S r hv hw hp hc hs hd
  exact hv_aret hx hb hr hrt hlocks r hv hw hp hc hs hd
end HVB
section HVM
variable {p : Program} {l : Launch} {e : Env} {R : Room} {s : State} {m : MethodId} {args : Array Value} {below : List Frame} {meth : Method} {c : Code} {H : Heap} {locs : List Loc} {cells slots : Nat} {Q : State → Prop}
variable {pc : Nat} {ls : Array Slot} {rest st0 : List Value} {G : hG} {h : hp} {a : Array Value} {mc ms : Nat}
theorem lv_tope {x y : Int32} (e9 : x = y) (k : W p l e R s m args below meth c H locs cells slots Q (F0 m pc ls (.int y :: rest))) : W p l e R s m args below meth c H locs cells slots Q (F0 m pc ls (.int x :: rest)) := by rw [e9]; exact k
theorem lv_mat {P : Prop} [Decidable P] {x y : Int32} {j : Nat} {g1 : JFrame} (hrow : (P → W p l e R s m args below meth c H locs cells slots Q (F0 m j ls (.int x :: rest))) → (¬ P → W p l e R s m args below meth c H locs cells slots Q (F0 m j ls (.int y :: rest))) → W p l e R s m args below meth c H locs cells slots Q g1) (k : W p l e R s m args below meth c H locs cells slots Q (F0 m j ls (.int (if P then x else y) :: rest))) : W p l e R s m args below meth c H locs cells slots Q g1 :=
  hrow (fun z => by rw [if_pos z] at k; exact k) (fun z => by rw [if_neg z] at k; exact k)
theorem lv_mat1 {P : Prop} [Decidable P] {j : Nat} {g1 : JFrame} (hrow : (P → W p l e R s m args below meth c H locs cells slots Q (F0 m j ls (.int 1 :: rest))) → (¬ P → W p l e R s m args below meth c H locs cells slots Q (F0 m j ls (.int 0 :: rest))) → W p l e R s m args below meth c H locs cells slots Q g1) (k : W p l e R s m args below meth c H locs cells slots Q (F0 m j ls (.int (b01 P) :: rest))) : W p l e R s m args below meth c H locs cells slots Q g1 :=
  hrow (fun z => by rw [b01_t z] at k; exact k) (fun z => by rw [b01_f z] at k; exact k)
theorem lv_mat0 {P : Prop} [Decidable P] {j : Nat} {g1 : JFrame} (hrow : (P → W p l e R s m args below meth c H locs cells slots Q (F0 m j ls (.int 0 :: rest))) → (¬ P → W p l e R s m args below meth c H locs cells slots Q (F0 m j ls (.int 1 :: rest))) → W p l e R s m args below meth c H locs cells slots Q g1) (k : W p l e R s m args below meth c H locs cells slots Q (F0 m j ls (.int (b01 (¬ P)) :: rest))) : W p l e R s m args below meth c H locs cells slots Q g1 :=
  hrow (fun z => by rw [b01_f (not_not_intro z)] at k; exact k) (fun z => by rw [b01_t z] at k; exact k)
/-- a callee that only reads -/
theorem hv_callir {E : Int32} (hr : va_Run p l e R s m args below meth c H locs cells slots mc ms (F0 m pc ls st0) rest (va_Qi (fun r h1 => r = E ∧ h1 = h) (hv_O G) (hv_A G) a) (hv_A G)) (hw : hv_W G s h H locs)
    (kk : ∀ (H1 : Heap) (locs1 : List Loc), hv_W G s h H1 locs1 → W p l e R s m args below meth c H1 locs1 (cells + mc) (slots + ms) Q (F0 m (pc + 3) ls (.int E :: rest))) : W p l e R s m args below meth c H locs cells slots Q (F0 m pc ls st0) :=
  hv_calli hr hw fun r h1 H1 locs1 hp hw1 => by
    obtain ⟨e1, e2⟩ := hp
    subst e1
    subst e2
    exact kk H1 locs1 hw1
end HVM
abbrev hv_Ri (l : Launch) (G : hG) (y : MethodName) (ws : List Cond) (rm : Room) (av : List Value) (h : hp) (E : Int32) : Prop := hv_Mi l G y ws rm av h (fun r h1 => r = E ∧ h1 = h)
