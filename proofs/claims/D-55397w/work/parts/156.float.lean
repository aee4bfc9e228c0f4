/-! ===== the quotient of two small numbers is a number ===== -/
set_option maxRecDepth 100000
section FPQ
variable {f : Jvm.FP.Core.Fmt}
/-- a datum of the format, no NaN -/
def fq_ok (f : Jvm.FP.Core.Fmt) (d : Jvm.FP.Core.Datum) : Prop := match d with
  | .nan => False
  | .inf _ => True
  | .fin _ c q => c < 2 ^ f.p ∧ f.qmin ≤ q ∧ q ≤ f.qmax
theorem fq_bound {s : Bool} {c : Nat} {q : Int} (hc : c < 2 ^ f.p) (hq : f.qmin ≤ q) : fq_ok f (Jvm.FP.Core.bound f s c q) := by
  unfold Jvm.FP.Core.bound
  by_cases h : q ≤ f.qmax
  · rw [if_pos h]; exact ⟨hc, hq, h⟩
  · rw [if_neg h]; exact trivial
theorem fq_ratio {s : Bool} {n d : Nat} {e : Int} (hm : f.qmin ≤ f.qmax) (ht : f.tails < 2 ^ f.p) : fq_ok f (Jvm.FP.Core.roundRatio f s n d e) := by
  unfold Jvm.FP.Core.roundRatio
  by_cases h : n = 0
  · rw [if_pos h]; exact ⟨Nat.two_pow_pos _, Int.le_refl _, hm⟩
  · rw [if_neg h]
    unfold Jvm.FP.Core.roundAt Jvm.FP.Core.settle
    have hq : f.qmin ≤ Jvm.FP.Core.quantum f n d e := Int.le_max_left _ _
    generalize Jvm.FP.Core.nearest _ _ = c
    by_cases h2 : c < 2 ^ f.p
    · rw [if_pos h2]; exact fq_bound h2 hq
    · rw [if_neg h2]; exact fq_bound ht (by omega)
theorem fq_quot {s t : Bool} {c d : Nat} {q r : Int} (hd : d ≠ 0) (hm : f.qmin ≤ f.qmax) (ht : f.tails < 2 ^ f.p) : fq_ok f (Jvm.FP.Core.quotient f (.fin s c q) (.fin t d r)) := by
  show fq_ok f (if d = 0 then _ else _)
  rw [if_neg hd]
  exact fq_ratio hm ht
end FPQ
/-- how many bits are left behind the sign -/
theorem fq_enc32 {d : Jvm.FP.Core.Datum} (h : fq_ok Jvm.FP.Core.b32 d) : Jvm.FP.Core.encode Jvm.FP.Core.b32 d % 2 ^ 31 ≤ 2139095040 := by
  cases d with
  | nan => exact absurd h id
  | inf s => cases s <;> decide
  | fin s c q =>
    obtain ⟨h1, h2, h3⟩ := h
    have h1 : c < 16777216 := h1
    have h2 : (-149 : Int) ≤ q := h2
    have h3 : q ≤ (104 : Int) := h3
    show (if c < 8388608 then (s.toNat * 256 + 0) * 8388608 + c else (s.toNat * 256 + ((q - (-149)).toNat + 1)) * 8388608 + (c - 8388608)) % 2 ^ 31 ≤ _
    have hs : s.toNat = 0 ∨ s.toNat = 1 := by cases s <;> simp
    by_cases h9 : c < 8388608
    · rw [if_pos h9]; rcases hs with z | z <;> rw [z] <;> omega
    · rw [if_neg h9]
      have hk : (q - (-149)).toNat ≤ 253 := by omega
      generalize (q - (-149)).toNat = k at hk ⊢
      rcases hs with z | z <;> rw [z] <;> omega
theorem fq_enc64 {d : Jvm.FP.Core.Datum} (h : fq_ok Jvm.FP.Core.b64 d) : Jvm.FP.Core.encode Jvm.FP.Core.b64 d % 2 ^ 63 ≤ 9218868437227405312 := by
  cases d with
  | nan => exact absurd h id
  | inf s => cases s <;> decide
  | fin s c q =>
    obtain ⟨h1, h2, h3⟩ := h
    have h1 : c < 9007199254740992 := h1
    have h2 : (-1074 : Int) ≤ q := h2
    have h3 : q ≤ (971 : Int) := h3
    show (if c < 4503599627370496 then (s.toNat * 2048 + 0) * 4503599627370496 + c else (s.toNat * 2048 + ((q - (-1074)).toNat + 1)) * 4503599627370496 + (c - 4503599627370496)) % 2 ^ 63 ≤ _
    have hs : s.toNat = 0 ∨ s.toNat = 1 := by cases s <;> simp
    by_cases h9 : c < 4503599627370496
    · rw [if_pos h9]; rcases hs with z | z <;> rw [z] <;> omega
    · rw [if_neg h9]
      have hk : (q - (-1074)).toNat ≤ 2045 := by omega
      generalize (q - (-1074)).toNat = k at hk ⊢
      rcases hs with z | z <;> rw [z] <;> omega
theorem fq_rr {f : Jvm.FP.Core.Fmt} {n P : Nat} (hp : f.p = P + 1) (h0 : n ≠ 0) (hn : n < 2 ^ (P + 1)) (hmin : f.qmin ≤ (n.log2 : Int) - (P : Int)) (hmax : (0 : Int) ≤ f.qmax) : Jvm.FP.Core.roundRatio f false n 1 0 = .fin false (n * 2 ^ (P - n.log2)) ((n.log2 : Int) - (P : Int)) := by
  have hL : n.log2 < P + 1 := (Nat.log2_lt h0).mpr hn
  have h1 : 2 ^ n.log2 ≤ n := Nat.log2_self_le h0
  have h2 : n < 2 ^ (n.log2 + 1) := Nat.lt_log2_self
  have hlead : Jvm.FP.Core.leading n 1 = (n.log2 : Int) := by
    unfold Jvm.FP.Core.leading
    have e1 : (1 : Nat).log2 = 0 := by decide
    simp only [e1]
    rw [if_pos]
    · simp
    · have a1 : ((n.log2 : Int) - ((0 : Nat) : Int)).toNat = n.log2 := by omega
      have a2 : (-((n.log2 : Int) - ((0 : Nat) : Int))).toNat = 0 := by omega
      rw [a1, a2, Nat.one_mul, Nat.pow_zero, Nat.mul_one]
      exact h1
  have hq : Jvm.FP.Core.quantum f n 1 0 = (n.log2 : Int) - (P : Int) := by
    unfold Jvm.FP.Core.quantum
    rw [hlead, hp]
    have : (n.log2 : Int) + 0 - (((P + 1 : Nat) : Int) - 1) = (n.log2 : Int) - (P : Int) := by omega
    rw [this]
    exact Int.max_eq_right hmin
  unfold Jvm.FP.Core.roundRatio
  rw [if_neg h0, hq]
  unfold Jvm.FP.Core.roundAt Jvm.FP.Core.unitsNum Jvm.FP.Core.unitsDen
  have a1 : ((0 : Int) - ((n.log2 : Int) - (P : Int))).toNat = P - n.log2 := by omega
  have a2 : (((n.log2 : Int) - (P : Int)) - 0).toNat = 0 := by omega
  rw [a1, a2, Nat.pow_zero, Nat.mul_one]
  have hne : Jvm.FP.Core.nearest (n * 2 ^ (P - n.log2)) 1 = n * 2 ^ (P - n.log2) := by
    unfold Jvm.FP.Core.nearest
    rw [if_pos (by rw [Nat.mod_one]; decide), Nat.div_one]
  rw [hne]
  unfold Jvm.FP.Core.settle
  have hc : n * 2 ^ (P - n.log2) < 2 ^ f.p := by
    rw [hp]
    have := Nat.mul_lt_mul_of_pos_right h2 (Nat.two_pow_pos (P - n.log2))
    rw [← Nat.pow_add, show n.log2 + 1 + (P - n.log2) = P + 1 by omega] at this
    exact this
  rw [if_pos hc]
  unfold Jvm.FP.Core.bound
  rw [if_pos (by omega)]
theorem fq_i2f {n : Nat} (hn : n < 16777216) : ∃ s c q, Jvm.FP.Core.decode Jvm.FP.Core.b32 (FP.i2f (nI n)).toNat = .fin s c q ∧ (n ≠ 0 → c ≠ 0) := by
  have e0 : (FP.i2f (nI n)).toNat = Jvm.FP.Core.fromInt Jvm.FP.Core.b32 (n : Int) % 2 ^ 32 := by
    show (UInt32.ofNat (Jvm.FP.Core.fromInt Jvm.FP.Core.b32 (nI n).toInt)).toNat = _
    rw [nI_toInt (by omega)]
    rfl
  rw [e0]
  by_cases h0 : n = 0
  · subst h0
    exact ⟨false, 0, -149, by decide, fun z => absurd rfl z⟩
  · have e1 : Jvm.FP.Core.fromInt Jvm.FP.Core.b32 (n : Int) = Jvm.FP.Core.encode Jvm.FP.Core.b32 (.fin false (n * 2 ^ (23 - n.log2)) ((n.log2 : Int) - (23 : Nat))) := by
      unfold Jvm.FP.Core.fromInt Jvm.FP.Core.ofInt
      have d1 : decide ((n : Int) < 0) = false := by simp
      rw [d1, Int.natAbs_natCast]
      show Jvm.FP.Core.encode _ (Jvm.FP.Core.roundRatio Jvm.FP.Core.b32 false n 1 0) = _
      rw [fq_rr (P := 23) rfl h0 hn (by show (-149 : Int) ≤ _; omega) (by decide)]
    have hL : n.log2 < 24 := (Nat.log2_lt h0).mpr hn
    have h1 : 2 ^ n.log2 ≤ n := Nat.log2_self_le h0
    have h2 : n < 2 ^ (n.log2 + 1) := Nat.lt_log2_self
    have c1 : 8388608 ≤ n * 2 ^ (23 - n.log2) := by
      have := Nat.mul_le_mul_right (2 ^ (23 - n.log2)) h1
      rw [← Nat.pow_add, show n.log2 + (23 - n.log2) = 23 by omega] at this
      exact this
    have c2 : n * 2 ^ (23 - n.log2) < 16777216 := by
      have := Nat.mul_lt_mul_of_pos_right h2 (Nat.two_pow_pos (23 - n.log2))
      rw [← Nat.pow_add, show n.log2 + 1 + (23 - n.log2) = 24 by omega] at this
      exact this
    generalize n * 2 ^ (23 - n.log2) = c at c1 c2 e1
    have e2 : Jvm.FP.Core.fromInt Jvm.FP.Core.b32 (n : Int) = (n.log2 + 127) * 8388608 + (c - 8388608) := by
      rw [e1]
      show (if c < 8388608 then _ else ((false).toNat * 256 + ((((n.log2 : Int) - (23 : Nat)) - (-149)).toNat + 1)) * 8388608 + (c - 8388608)) = _
      rw [if_neg (by omega), show (((n.log2 : Int) - (23 : Nat)) - (-149)).toNat = n.log2 + 126 by omega]
      show (0 * 256 + (n.log2 + 126 + 1)) * 8388608 + (c - 8388608) = _
      omega
    rw [e2]
    generalize n.log2 = L at hL
    have e3 : ((L + 127) * 8388608 + (c - 8388608)) % 2 ^ 32 = (L + 127) * 8388608 + (c - 8388608) := Nat.mod_eq_of_lt (by omega)
    rw [e3]
    have fE : ((L + 127) * 8388608 + (c - 8388608)) / 8388608 % 256 = L + 127 := by omega
    have fT : ((L + 127) * 8388608 + (c - 8388608)) % 8388608 = c - 8388608 := by omega
    generalize (L + 127) * 8388608 + (c - 8388608) = z at fE fT
    show ∃ s c' q, (if z / 8388608 % 256 = 255 then _ else if z / 8388608 % 256 = 0 then _ else Jvm.FP.Core.Datum.fin _ (8388608 + z % 8388608) _) = .fin s c' q ∧ _
    rw [fE, if_neg (by omega), if_neg (by omega)]
    exact ⟨_, _, _, rfl, fun _ => by omega⟩
theorem fq_i2d {n : Nat} (hn : n < 2147483648) : ∃ s c q, Jvm.FP.Core.decode Jvm.FP.Core.b64 (FP.i2d (nI n)).toNat = .fin s c q ∧ (n ≠ 0 → c ≠ 0) := by
  have e0 : (FP.i2d (nI n)).toNat = Jvm.FP.Core.fromInt Jvm.FP.Core.b64 (n : Int) % 2 ^ 64 := by
    show (UInt64.ofNat (Jvm.FP.Core.fromInt Jvm.FP.Core.b64 (nI n).toInt)).toNat = _
    rw [nI_toInt (by omega)]
    rfl
  rw [e0]
  by_cases h0 : n = 0
  · subst h0
    exact ⟨false, 0, -1074, by decide, fun z => absurd rfl z⟩
  · have e1 : Jvm.FP.Core.fromInt Jvm.FP.Core.b64 (n : Int) = Jvm.FP.Core.encode Jvm.FP.Core.b64 (.fin false (n * 2 ^ (52 - n.log2)) ((n.log2 : Int) - (52 : Nat))) := by
      unfold Jvm.FP.Core.fromInt Jvm.FP.Core.ofInt
      have d1 : decide ((n : Int) < 0) = false := by simp
      rw [d1, Int.natAbs_natCast]
      show Jvm.FP.Core.encode _ (Jvm.FP.Core.roundRatio Jvm.FP.Core.b64 false n 1 0) = _
      rw [fq_rr (P := 52) rfl h0 (Nat.lt_trans hn (by decide)) (by show (-1074 : Int) ≤ _; omega) (by decide)]
    have hL : n.log2 < 31 := (Nat.log2_lt h0).mpr hn
    have h1 : 2 ^ n.log2 ≤ n := Nat.log2_self_le h0
    have h2 : n < 2 ^ (n.log2 + 1) := Nat.lt_log2_self
    have c1 : 4503599627370496 ≤ n * 2 ^ (52 - n.log2) := by
      have := Nat.mul_le_mul_right (2 ^ (52 - n.log2)) h1
      rw [← Nat.pow_add, show n.log2 + (52 - n.log2) = 52 by omega] at this
      exact this
    have c2 : n * 2 ^ (52 - n.log2) < 9007199254740992 := by
      have := Nat.mul_lt_mul_of_pos_right h2 (Nat.two_pow_pos (52 - n.log2))
      rw [← Nat.pow_add, show n.log2 + 1 + (52 - n.log2) = 53 by omega] at this
      exact this
    generalize n * 2 ^ (52 - n.log2) = c at c1 c2 e1
    have e2 : Jvm.FP.Core.fromInt Jvm.FP.Core.b64 (n : Int) = (n.log2 + 1023) * 4503599627370496 + (c - 4503599627370496) := by
      rw [e1]
      show (if c < 4503599627370496 then _ else ((false).toNat * 2048 + ((((n.log2 : Int) - (52 : Nat)) - (-1074)).toNat + 1)) * 4503599627370496 + (c - 4503599627370496)) = _
      rw [if_neg (by omega), show (((n.log2 : Int) - (52 : Nat)) - (-1074)).toNat = n.log2 + 1022 by omega]
      show (0 * 2048 + (n.log2 + 1022 + 1)) * 4503599627370496 + (c - 4503599627370496) = _
      omega
    rw [e2]
    generalize n.log2 = L at hL
    have e3 : ((L + 1023) * 4503599627370496 + (c - 4503599627370496)) % 2 ^ 64 = (L + 1023) * 4503599627370496 + (c - 4503599627370496) := Nat.mod_eq_of_lt (by omega)
    rw [e3]
    have fE : ((L + 1023) * 4503599627370496 + (c - 4503599627370496)) / 4503599627370496 % 2048 = L + 1023 := by omega
    have fT : ((L + 1023) * 4503599627370496 + (c - 4503599627370496)) % 4503599627370496 = c - 4503599627370496 := by omega
    generalize (L + 1023) * 4503599627370496 + (c - 4503599627370496) = z at fE fT
    show ∃ s c' q, (if z / 4503599627370496 % 2048 = 2047 then _ else if z / 4503599627370496 % 2048 = 0 then _ else Jvm.FP.Core.Datum.fin _ (4503599627370496 + z % 4503599627370496) _) = .fin s c' q ∧ _
    rw [fE, if_neg (by omega), if_neg (by omega)]
    exact ⟨_, _, _, rfl, fun _ => by omega⟩

theorem vf_fdiv {a b : Nat} (ha : a < 16777216) (hb : b < 16777216) (h0 : 0 < b) : vf_n32 (FP.fdiv (FP.i2f (nI a)) (FP.i2f (nI b))) := by
  obtain ⟨s, c, q, e1, _⟩ := fq_i2f ha
  obtain ⟨t, d, r, e2, hd⟩ := fq_i2f hb
  have e : (FP.fdiv (FP.i2f (nI a)) (FP.i2f (nI b))).toNat = Jvm.FP.Core.encode Jvm.FP.Core.b32 (Jvm.FP.Core.quotient Jvm.FP.Core.b32 (.fin s c q) (.fin t d r)) % 2 ^ 32 := by
    rw [← e1, ← e2]; rfl
  have h9 := fq_enc32 (fq_quot (f := Jvm.FP.Core.b32) (s := s) (t := t) (c := c) (q := q) (r := r) (hd (by omega)) (by decide) (by decide))
  unfold vf_n32
  rw [UInt32.le_iff_toNat_le, UInt32.toNat_and]
  show _ &&& (2 ^ 31 - 1) ≤ 2139095040
  rw [Nat.and_two_pow_sub_one_eq_mod, e]
  omega
theorem vf_ddiv {a b : Nat} (ha : a < 2147483648) (hb : b < 2147483648) (h0 : 0 < b) : vf_n64 (FP.ddiv (FP.i2d (nI a)) (FP.i2d (nI b))) := by
  obtain ⟨s, c, q, e1, _⟩ := fq_i2d ha
  obtain ⟨t, d, r, e2, hd⟩ := fq_i2d hb
  have e : (FP.ddiv (FP.i2d (nI a)) (FP.i2d (nI b))).toNat = Jvm.FP.Core.encode Jvm.FP.Core.b64 (Jvm.FP.Core.quotient Jvm.FP.Core.b64 (.fin s c q) (.fin t d r)) % 2 ^ 64 := by
    rw [← e1, ← e2]; rfl
  have h9 := fq_enc64 (fq_quot (f := Jvm.FP.Core.b64) (s := s) (t := t) (c := c) (q := q) (r := r) (hd (by omega)) (by decide) (by decide))
  unfold vf_n64
  rw [UInt64.le_iff_toNat_le, UInt64.toNat_and]
  show _ &&& (2 ^ 63 - 1) ≤ 9218868437227405312
  rw [Nat.and_two_pow_sub_one_eq_mod, e]
  omega
abbrev mo_Mf (l : Launch) (G : hG) (y : MethodName) (ws : List Cond) (rm : Room) (av : List Value) (h : hp) (o : Nat) (ma : Nat → Nat) (E : UInt32) (S : MS) : Prop := hv_Mf l G y ws rm av h (fun r h1 => r = E ∧ isMod G h1 o ma S ∧ mo_fr o ma h h1)
abbrev mo_Md (l : Launch) (G : hG) (y : MethodName) (ws : List Cond) (rm : Room) (av : List Value) (h : hp) (o : Nat) (ma : Nat → Nat) (E : UInt64) (S : MS) : Prop := hv_Md l G y ws rm av h (fun r h1 => r = E ∧ isMod G h1 o ma S ∧ mo_fr o ma h h1)
theorem o_n_pos {x : Int32} (h : x = nI (o_n x)) (h2 : ¬ x ≤ 0) : 0 < o_n x := by
  rcases Nat.eq_zero_or_pos (o_n x) with z | z
  · rw [z] at h
    exact absurd (by rw [h]; decide) h2
  · exact z
theorem o_n_pos0 {x : Int32} (h : x = nI (o_n x)) (h2 : ¬ x = 0) : 0 < o_n x := by
  rcases Nat.eq_zero_or_pos (o_n x) with z | z
  · rw [z] at h
    exact absurd (h.trans nI_0) h2
  · exact z
theorem vf_fdivI {x y : Int32} (hx : x = nI (o_n x) ∧ o_n x < 16777216) (hy : y = nI (o_n y) ∧ o_n y < 16777216) (h0 : ¬ y ≤ 0) : vf_n32 (FP.fdiv (FP.i2f x) (FP.i2f y)) := by
  have h := vf_fdiv hx.2 hy.2 (o_n_pos hy.1 h0)
  rw [← hx.1, ← hy.1] at h
  exact h
theorem vf_ddivI {x y : Int32} (hx : x = nI (o_n x) ∧ o_n x < 2147483648) (hy : y = nI (o_n y) ∧ o_n y < 2147483648) (h0 : ¬ y = 0) : vf_n64 (FP.ddiv (FP.i2d x) (FP.i2d y)) := by
  have h := vf_ddiv hx.2 hy.2 (o_n_pos0 hy.1 h0)
  rw [← hx.1, ← hy.1] at h
  exact h
