/-! ===== the model's object: 16 numbers and 8 int arrays, as one pair of functions ===== -/
set_option maxRecDepth 100000
abbrev MS : Type := (Nat → Int32) × (Nat → Nat → Int32)
def mo_isA (k : Nat) : Bool := k == 0 || k == 1 || k == 2 || k == 3 || k == 10 || k == 13 || k == 22 || k == 23
def mo_len (k : Nat) : Nat := if k = 3 then 1096 else if k = 10 then 60 else if k = 13 then 80 else if k = 22 then 16 else if k = 23 then 64 else 137
abbrev mo_fl (ma : Nat → Nat) (f : Nat → Int32) : List Value := [.ref (ma 0), .ref (ma 1), .ref (ma 2), .ref (ma 3), .int (f 4), .int (f 5), .int (f 6), .int (f 7), .int (f 8), .int (f 9), .ref (ma 10), .int (f 11), .int (f 12), .ref (ma 13), .int (f 14), .int (f 15), .int (f 16), .int (f 17), .int (f 18), .int (f 19), .int (f 20), .int (f 21), .ref (ma 22), .ref (ma 23)]
def isMod (G : hG) (h : hp) (o : Nat) (ma : Nat → Nat) (σ : MS) : Prop := h o = some (.inr (4, mo_fl ma σ.1)) ∧ (∀ k, mo_isA k = true → h (ma k) = some (.inl (0, (mo_len k, .inl (σ.2 k)))) ∧ G.2.1 ≤ ma k) ∧ (∀ i j, mo_isA i = true → mo_isA j = true → ma i = ma j → i = j) ∧ G.2.1 ≤ o
def mo_fr (o : Nat) (ma : Nat → Nat) (h h1 : hp) : Prop := ∀ q, q ≠ o → (∀ k, mo_isA k = true → q ≠ ma k) → h1 q = h q
theorem mo_fr.rf {o : Nat} {ma : Nat → Nat} {h : hp} : mo_fr o ma h h := fun _ _ _ => rfl
theorem mo_fr.tr {o : Nat} {ma : Nat → Nat} {h h1 h2 : hp} (a : mo_fr o ma h h1) (b : mo_fr o ma h1 h2) : mo_fr o ma h h2 := fun q x y => (b q x y).trans (a q x y)
/-- a number is put, a place of an array is put -/
def mo_st (σ : MS) (k : Nat) (v : Int32) : MS := (upd σ.1 k v, σ.2)
def mo_sa (σ : MS) (k j : Nat) (v : Int32) : MS := (σ.1, va_up σ.2 k (upd (σ.2 k) j v))
theorem mo_flset {ma : Nat → Nat} {f : Nat → Int32} {k : Nat} {v : Int32} (hk : k < 24) (hka : mo_isA k = false) : (mo_fl ma f).set k (.int v) = mo_fl ma (upd f k v) := by
  have h9 : k = 4 ∨ k = 5 ∨ k = 6 ∨ k = 7 ∨ k = 8 ∨ k = 9 ∨ k = 11 ∨ k = 12 ∨ k = 14 ∨ k = 15 ∨ k = 16 ∨ k = 17 ∨ k = 18 ∨ k = 19 ∨ k = 20 ∨ k = 21 := by
    simp [mo_isA] at hka
    omega
  rcases h9 with rfl | rfl | rfl | rfl | rfl | rfl | rfl | rfl | rfl | rfl | rfl | rfl | rfl | rfl | rfl | rfl <;> simp [mo_fl, upd]
theorem isMod.ne {G : hG} {h : hp} {o : Nat} {ma : Nat → Nat} {σ : MS} (hM : isMod G h o ma σ) {k : Nat} (hk : mo_isA k = true) : ma k ≠ o := hv_neAO (hM.2.1 k hk).1 hM.1
theorem isMod.st {G : hG} {h h1 : hp} {o k : Nat} {ma : Nat → Nat} {σ : MS} {v : Int32} (hM : isMod G h o ma σ) (hk : k < 24) (hka : mo_isA k = false) (hu : hv_up h o (.inr (4, (mo_fl ma σ.1).set k (.int v))) h1) : isMod G h1 o ma (mo_st σ k v) := by
  refine ⟨?_, fun j hj => ⟨(hu.2 _ (hM.ne hj)).trans (hM.2.1 j hj).1, (hM.2.1 j hj).2⟩, hM.2.2⟩
  rw [hu.1, mo_flset hk hka]
  rfl
theorem isMod.sa {G : hG} {h h1 : hp} {o k j : Nat} {ma : Nat → Nat} {σ : MS} {v : Int32} (hM : isMod G h o ma σ) (hk : mo_isA k = true) (hu : hv_up h (ma k) (.inl (0, (mo_len k, .inl (upd (σ.2 k) j v)))) h1) : isMod G h1 o ma (mo_sa σ k j v) := by
  refine ⟨(hu.2 _ (Ne.symm (hM.ne hk))).trans hM.1, fun i hi => ⟨?_, (hM.2.1 i hi).2⟩, hM.2.2⟩
  by_cases hik : i = k
  · subst hik
    rw [hu.1]
    simp [mo_sa, va_up_self]
  · rw [hu.2 _ (fun z => hik (hM.2.2.1 i k hi hk z)), (hM.2.1 i hi).1]
    simp [mo_sa, va_up_ne _ _ hik]
theorem mo_fr.st {h0 h h1 : hp} {o : Nat} {ma : Nat → Nat} {e : hE} (hF : mo_fr o ma h0 h) (hu : hv_up h o e h1) : mo_fr o ma h0 h1 := fun q x y => (hu.2 q x).trans (hF q x y)
theorem mo_fr.sa {h0 h h1 : hp} {o k : Nat} {ma : Nat → Nat} {e : hE} (hF : mo_fr o ma h0 h) (hk : mo_isA k = true) (hu : hv_up h (ma k) e h1) : mo_fr o ma h0 h1 := fun q x y => (hu.2 q (y k hk)).trans (hF q x y)
section MOR
variable {p : Program} {l : Launch} {e : Env} {R : Room} {s : State} {m : MethodId} {args : Array Value} {below : List Frame} {meth : Method} {c : Code} {H : Heap} {locs : List Loc} {cells slots : Nat} {Q : State → Prop}
variable {cc : ByteArray} {pc : Nat} {ls : Array Slot} {rest st0 : List Value} {G : hG} {h h0 : hp} {o : Nat} {ma : Nat → Nat} {σ : MS}
theorem mo_get (hx : p.tables.exec = Jvm.exec) (hb : c.code = cc) (hts : ∀ w ∈ lw_all, w.before args s = true) (hown : s.vm.findClass RX5 = some m.cls) (hw : hv_W G s h H locs) (hM : isMod G h o ma σ) (k : Nat) (hk : k < 24) {index : Nat} (hlink : (Cond.fieldLink RX5 index RX5 (TX5 k).2.1 (TX5 k).2.2.1) ∈ lw_all) (h1 : (TX5 k).1 = RX5) {v : Value} (hv : (mo_fl ma σ.1)[k]? = some v) (hdg : decode cc pc = .ok (.getfield index, 3))
    (kk : W p l e R s m args below meth c H locs cells slots Q (F0 m (pc + 3) ls (v :: rest))) : W p l e R s m args below meth c H locs cells slots Q (F0 m pc ls (.ref o :: rest)) :=
  hv_get hx hb hts hown pk_X5 hw hM.1 k hk (hts _ hlink) (fun _ z => by rw [h1] at z; exact z) hv hdg kk
theorem mo_put (hx : p.tables.exec = Jvm.exec) (hb : c.code = cc) (hts : ∀ w ∈ lw_all, w.before args s = true) (hown : s.vm.findClass RX5 = some m.cls) (hw : hv_W G s h H locs) (hM : isMod G h o ma σ) (hF : mo_fr o ma h0 h) (k : Nat) (hk : k < 24) (hka : mo_isA k = false) {index : Nat} (hlink : (Cond.fieldLink RX5 index RX5 (TX5 k).2.1 (TX5 k).2.2.1) ∈ lw_all) (h1 : (TX5 k).1 = RX5) (hfin : (TX5 k).2.2.2 = false) {v : Int32} (hn : narrow (tyX5 k) (.int v) = .int v) (hfit : fits (tyX5 k) (.int v) = true) (hdg : decode cc pc = .ok (.putfield index, 3))
    (kk : ∀ (h1 : hp) (H1 : Heap) (locs1 : List Loc), isMod G h1 o ma (mo_st σ k v) → mo_fr o ma h0 h1 → hv_W G s h1 H1 locs1 → W p l e R s m args below meth c H1 locs1 cells slots Q (F0 m (pc + 3) ls rest)) : W p l e R s m args below meth c H locs cells slots Q (F0 m pc ls (.int v :: .ref o :: rest)) :=
  hv_put hx hb hts hown pk_X5 hw hM.1 hM.2.2.2 k hk (hts _ hlink) (fun _ z => by rw [h1] at z; exact z) hfin hn hfit (by simpa using hk) hdg (fun h2 H1 locs1 hu hw1 => kk h2 H1 locs1 (hM.st hk hka hu) (hF.st hu) hw1)
theorem mo_ald (hx : p.tables.exec = Jvm.exec) (hb : c.code = cc) (hw : hv_W G s h H locs) (hM : isMod G h o ma σ) (k : Nat) (hk : mo_isA k = true) {i : Int32} {j : Nat} (hi : i = nI j) (hj : j < mo_len k) (hdg : decode cc pc = .ok (.iaload, 1))
    (kk : W p l e R s m args below meth c H locs cells slots Q (F0 m (pc + 1) ls (.int (σ.2 k j) :: rest))) : W p l e R s m args below meth c H locs cells slots Q (F0 m pc ls (.int i :: .ref (ma k) :: rest)) :=
  hv_iald hx hb hw (hM.2.1 k hk).1 hi hj (by unfold mo_len; split <;> (try split) <;> (try split) <;> (try split) <;> (try split) <;> decide) hdg kk
theorem mo_ast (hx : p.tables.exec = Jvm.exec) (hb : c.code = cc) (hw : hv_W G s h H locs) (hM : isMod G h o ma σ) (hF : mo_fr o ma h0 h) (k : Nat) (hk : mo_isA k = true) {i x : Int32} {j : Nat} (hi : i = nI j) (hj : j < mo_len k) (hdg : decode cc pc = .ok (.iastore, 1))
    (kk : ∀ (h1 : hp) (H1 : Heap) (locs1 : List Loc), isMod G h1 o ma (mo_sa σ k j x) → mo_fr o ma h0 h1 → hv_W G s h1 H1 locs1 → W p l e R s m args below meth c H1 locs1 cells slots Q (F0 m (pc + 1) ls rest)) : W p l e R s m args below meth c H locs cells slots Q (F0 m pc ls (.int x :: .int i :: .ref (ma k) :: rest)) :=
  hv_iast hx hb hw (hM.2.1 k hk).1 (hM.2.1 k hk).2 hi hj (by unfold mo_len; split <;> (try split) <;> (try split) <;> (try split) <;> (try split) <;> decide) hdg (fun h2 H1 locs1 hu hw1 => kk h2 H1 locs1 (hM.sa hk hu) (hF.sa hk hu) hw1)
/-- a callee of the model's that changes its state -/
theorem mo_calli {E : Int32} {S : MS} {a : Array Value} {mc ms : Nat} (hr : va_Run p l e R s m args below meth c H locs cells slots mc ms (F0 m pc ls st0) rest (va_Qi (fun r h1 => r = E ∧ isMod G h1 o ma S ∧ mo_fr o ma h h1) (hv_O G) (hv_A G) a) (hv_A G)) (hw : hv_W G s h H locs) (hF : mo_fr o ma h0 h)
    (kk : ∀ (h1 : hp) (H1 : Heap) (locs1 : List Loc), isMod G h1 o ma S → mo_fr o ma h0 h1 → hv_W G s h1 H1 locs1 → W p l e R s m args below meth c H1 locs1 (cells + mc) (slots + ms) Q (F0 m (pc + 3) ls (.int E :: rest))) : W p l e R s m args below meth c H locs cells slots Q (F0 m pc ls st0) :=
  hv_calli hr hw fun r h1 H1 locs1 hp hw1 => by
    obtain ⟨e1, e2, e3⟩ := hp
    subst e1
    exact kk h1 H1 locs1 e2 (hF.tr e3) hw1
theorem mo_callv {S : MS} {a : Array Value} {mc ms : Nat} (hr : va_Run p l e R s m args below meth c H locs cells slots mc ms (F0 m pc ls st0) rest (va_Qv (fun h1 => isMod G h1 o ma S ∧ mo_fr o ma h h1) (hv_O G) (hv_A G) a) (hv_A G)) (hw : hv_W G s h H locs) (hF : mo_fr o ma h0 h)
    (kk : ∀ (h1 : hp) (H1 : Heap) (locs1 : List Loc), isMod G h1 o ma S → mo_fr o ma h0 h1 → hv_W G s h1 H1 locs1 → W p l e R s m args below meth c H1 locs1 (cells + mc) (slots + ms) Q (F0 m (pc + 3) ls rest)) : W p l e R s m args below meth c H locs cells slots Q (F0 m pc ls st0) :=
  hv_callv hr hw fun h1 H1 locs1 hp hw1 => kk h1 H1 locs1 hp.1 (hF.tr hp.2) hw1
end MOR
abbrev mo_Ri (l : Launch) (G : hG) (y : MethodName) (ws : List Cond) (rm : Room) (av : List Value) (h : hp) (E : Int32) : Prop := hv_Mi l G y ws rm av h (fun r h1 => r = E ∧ h1 = h)
abbrev mo_Mi (l : Launch) (G : hG) (y : MethodName) (ws : List Cond) (rm : Room) (av : List Value) (h : hp) (o : Nat) (ma : Nat → Nat) (E : Int32) (S : MS) : Prop := hv_Mi l G y ws rm av h (fun r h1 => r = E ∧ isMod G h1 o ma S ∧ mo_fr o ma h h1)
abbrev mo_Mv (l : Launch) (G : hG) (y : MethodName) (ws : List Cond) (rm : Room) (av : List Value) (h : hp) (o : Nat) (ma : Nat → Nat) (S : MS) : Prop := hv_Mv l G y ws rm av h (fun h1 => isMod G h1 o ma S ∧ mo_fr o ma h h1)
