/-! QUOTIENTS OF WHOLE NUMBERS ARE NUMBERS (from the core's definitions alone) -/
section FPC
abbrev okD (f : Jvm.FP.Core.Fmt) (d : Jvm.FP.Core.Datum) : Prop := match d with
  | .nan => False
  | .inf _ => True
  | .fin _ c q => c < 2 ^ f.p ∧ q ≤ f.qmax
theorem round_ok {f : Jvm.FP.Core.Fmt} (h1 : f.qmin ≤ f.qmax) (h2 : f.tails < 2 ^ f.p) (s : Bool) (num den : Nat) (e : Int) : okD f (Jvm.FP.Core.roundRatio f s num den e) := by
  unfold Jvm.FP.Core.roundRatio
  by_cases h : num = 0
  · rw [if_pos h]; exact ⟨Nat.pow_pos (by decide), h1⟩
  · rw [if_neg h]
    unfold Jvm.FP.Core.roundAt Jvm.FP.Core.settle Jvm.FP.Core.bound
    generalize Jvm.FP.Core.nearest _ _ = c
    generalize Jvm.FP.Core.quantum f num den e = q
    by_cases hc : c < 2 ^ f.p
    · rw [if_pos hc]
      by_cases hq : q ≤ f.qmax
      · rw [if_pos hq]; exact ⟨hc, hq⟩
      · rw [if_neg hq]; trivial
    · rw [if_neg hc]
      by_cases hq : q + 1 ≤ f.qmax
      · rw [if_pos hq]; exact ⟨h2, hq⟩
      · rw [if_neg hq]; trivial
theorem enc64 {d : Jvm.FP.Core.Datum} (h : okD Jvm.FP.Core.b64 d) : vf_n64 (UInt64.ofNat (Jvm.FP.Core.encode Jvm.FP.Core.b64 d)) := by
  have key : ∀ n : Nat, n % 9223372036854775808 ≤ 9218868437227405312 → vf_n64 (UInt64.ofNat n) := by
    intro n hn
    unfold vf_n64
    rw [UInt64.le_iff_toNat_le, UInt64.toNat_and]
    have e1 : (0x7fffffffffffffff : UInt64).toNat = 2 ^ 63 - 1 := by decide
    have e2 : (0x7ff0000000000000 : UInt64).toNat = 9218868437227405312 := by decide
    rw [e1, e2, Nat.and_two_pow_sub_one_eq_mod, UInt64.toNat_ofNat']
    omega
  apply key
  have eT : Jvm.FP.Core.b64.tails = 4503599627370496 := by decide
  have eE : Jvm.FP.Core.b64.exps = 2048 := by decide
  have eP : 2 ^ Jvm.FP.Core.b64.p = 9007199254740992 := by decide
  have eQ : Jvm.FP.Core.b64.qmax = 971 := by decide
  have eq : Jvm.FP.Core.b64.qmin = -1074 := by decide
  cases d with
  | nan => exact h.elim
  | inf s =>
    unfold Jvm.FP.Core.encode Jvm.FP.Core.assemble
    rw [eT, eE]
    cases s <;> simp
  | fin s c q =>
    obtain ⟨h1, h2⟩ := h
    rw [eP] at h1
    rw [eQ] at h2
    have hs : s.toNat ≤ 1 := by cases s <;> decide
    unfold Jvm.FP.Core.encode Jvm.FP.Core.assemble
    rw [eT, eE, eq]
    by_cases hc : c < 4503599627370496
    · simp only [if_pos hc]; omega
    · simp only [if_neg hc]; omega
theorem enc32 {d : Jvm.FP.Core.Datum} (h : okD Jvm.FP.Core.b32 d) : vf_n32 (UInt32.ofNat (Jvm.FP.Core.encode Jvm.FP.Core.b32 d)) := by
  have key : ∀ n : Nat, n % 2147483648 ≤ 2139095040 → vf_n32 (UInt32.ofNat n) := by
    intro n hn
    unfold vf_n32
    rw [UInt32.le_iff_toNat_le, UInt32.toNat_and]
    have e1 : (0x7fffffff : UInt32).toNat = 2 ^ 31 - 1 := by decide
    have e2 : (0x7f800000 : UInt32).toNat = 2139095040 := by decide
    rw [e1, e2, Nat.and_two_pow_sub_one_eq_mod, UInt32.toNat_ofNat']
    omega
  apply key
  have eT : Jvm.FP.Core.b32.tails = 8388608 := by decide
  have eE : Jvm.FP.Core.b32.exps = 256 := by decide
  have eP : 2 ^ Jvm.FP.Core.b32.p = 16777216 := by decide
  have eQ : Jvm.FP.Core.b32.qmax = 104 := by decide
  have eq : Jvm.FP.Core.b32.qmin = -149 := by decide
  cases d with
  | nan => exact h.elim
  | inf s =>
    unfold Jvm.FP.Core.encode Jvm.FP.Core.assemble
    rw [eT, eE]
    cases s <;> simp
  | fin s c q =>
    obtain ⟨h1, h2⟩ := h
    rw [eP] at h1
    rw [eQ] at h2
    have hs : s.toNat ≤ 1 := by cases s <;> decide
    unfold Jvm.FP.Core.encode Jvm.FP.Core.assemble
    rw [eT, eE, eq]
    by_cases hc : c < 8388608
    · simp only [if_pos hc]; omega
    · simp only [if_neg hc]; omega
/-- the digits of a small whole number -/
theorem lead_ {v : Nat} (h : 0 < v) : Jvm.FP.Core.leading v 1 = (v.log2 : Int) := by
  have h1 : 2 ^ v.log2 ≤ v := Nat.log2_self_le (by omega)
  have e : (1 : Nat).log2 = 0 := by decide
  unfold Jvm.FP.Core.leading
  simp only [e]
  rw [if_pos (by
    have e1 : ((v.log2 : Int) - ((0 : Nat) : Int)).toNat = v.log2 := by omega
    have e2 : (-((v.log2 : Int) - ((0 : Nat) : Int))).toNat = 0 := by omega
    rw [e1, e2]; omega)]
  omega
theorem whole_ {f : Jvm.FP.Core.Fmt} (hp : 0 < f.p) (hq : f.qmin ≤ 1 - f.p) (hm : 0 ≤ f.qmax) {v : Nat} (h0 : 0 < v) (hv : v < 2 ^ f.p) :
    ∃ c : Nat, ∃ q : Int, Jvm.FP.Core.roundRatio f false v 1 0 = .fin false c q ∧ 2 ^ (f.p - 1) ≤ c ∧ c < 2 ^ f.p ∧ q ≤ 0 ∧ 1 - (f.p : Int) ≤ q := by
  have h1 : 2 ^ v.log2 ≤ v := Nat.log2_self_le (by omega)
  have h2 : v < 2 ^ (v.log2 + 1) := Nat.lt_log2_self
  have hk : v.log2 < f.p := (Nat.pow_lt_pow_iff_right (by decide)).mp (Nat.lt_of_le_of_lt h1 hv)
  have hquant : Jvm.FP.Core.quantum f v 1 0 = (v.log2 : Int) - ((f.p : Int) - 1) := by
    unfold Jvm.FP.Core.quantum
    rw [lead_ h0]
    omega
  obtain ⟨d, hd⟩ : ∃ d, f.p = v.log2 + 1 + d := ⟨f.p - (v.log2 + 1), by omega⟩
  have hqd : Jvm.FP.Core.quantum f v 1 0 = -(d : Int) := by rw [hquant]; omega
  have hu : Jvm.FP.Core.unitsNum v 0 (-(d : Int)) = v * 2 ^ d := by
    unfold Jvm.FP.Core.unitsNum
    rw [show (0 - -(d : Int)).toNat = d by omega]
  have hw : Jvm.FP.Core.unitsDen 1 0 (-(d : Int)) = 1 := by
    unfold Jvm.FP.Core.unitsDen
    rw [show (-(d : Int) - 0).toNat = 0 by omega]
  have hn : Jvm.FP.Core.nearest (v * 2 ^ d) 1 = v * 2 ^ d := by
    unfold Jvm.FP.Core.nearest
    rw [Nat.mod_one, if_pos (by decide), Nat.div_one]
  have hlt : v * 2 ^ d < 2 ^ f.p := by
    rw [hd, Nat.pow_add]
    exact Nat.mul_lt_mul_of_pos_right h2 (Nat.pow_pos (by decide))
  have hge : 2 ^ (f.p - 1) ≤ v * 2 ^ d := by
    rw [hd, show v.log2 + 1 + d - 1 = v.log2 + d by omega, Nat.pow_add]
    exact Nat.mul_le_mul_right _ h1
  refine ⟨v * 2 ^ d, -(d : Int), ?_, hge, hlt, by omega, by omega⟩
  unfold Jvm.FP.Core.roundRatio
  rw [if_neg (by omega)]
  unfold Jvm.FP.Core.roundAt
  rw [hqd, hu, hw, hn]
  unfold Jvm.FP.Core.settle Jvm.FP.Core.bound
  rw [if_pos hlt, if_pos (by omega)]
theorem i2d_fin' {v : Nat} (hv : v < 2147483648) : ∃ s c q, Jvm.FP.Core.decode Jvm.FP.Core.b64 (FP.i2d (nI v)).toNat = .fin s c q ∧ (0 < v → c ≠ 0) := by
  have eT : Jvm.FP.Core.b64.tails = 4503599627370496 := by decide
  have eE : Jvm.FP.Core.b64.exps = 2048 := by decide
  have eP : 2 ^ Jvm.FP.Core.b64.p = 9007199254740992 := by decide
  have eP1 : 2 ^ (Jvm.FP.Core.b64.p - 1) = 4503599627370496 := by decide
  have ep : (Jvm.FP.Core.b64.p : Int) = 53 := by decide
  have eQ : Jvm.FP.Core.b64.qmax = 971 := by decide
  have eq : Jvm.FP.Core.b64.qmin = -1074 := by decide
  have ei : FP.i2d (nI v) = UInt64.ofNat (Jvm.FP.Core.encode Jvm.FP.Core.b64 (Jvm.FP.Core.roundRatio Jvm.FP.Core.b64 false v 1 0)) := by
    show UInt64.ofNat (Jvm.FP.Core.encode Jvm.FP.Core.b64 (Jvm.FP.Core.round Jvm.FP.Core.b64 (Jvm.FP.Core.ofInt (nI v).toInt))) = _
    rw [nI_toInt (by omega)]
    have e1 : Jvm.FP.Core.ofInt (v : Int) = .fin false v 0 := by
      unfold Jvm.FP.Core.ofInt
      rw [Int.natAbs_natCast, decide_eq_false (by omega)]
    rw [e1]
    rfl
  rw [ei, UInt64.toNat_ofNat']
  by_cases h0 : v = 0
  · subst h0
    exact ⟨false, 0, -1074, by decide +kernel, fun h => absurd h (by decide)⟩
  · obtain ⟨c, q, e1, e2, e3, e4, e5⟩ := whole_ (f := Jvm.FP.Core.b64) (by decide) (by decide) (by decide) (v := v) (by omega) (by rw [eP]; omega)
    rw [eP] at e3
    rw [eP1] at e2
    rw [ep] at e5
    rw [e1]
    unfold Jvm.FP.Core.encode Jvm.FP.Core.assemble
    rw [eT, eE, eq]
    simp only [if_neg (Nat.not_lt.mpr e2)]
    have e6 : (false.toNat * 2048 + ((q - -1074).toNat + 1)) * 4503599627370496 + (c - 4503599627370496) = (q + 1075).toNat * 4503599627370496 + (c - 4503599627370496) := by
      rw [show (q - -1074).toNat + 1 = (q + 1075).toNat by omega]
      simp
    rw [e6]
    have e7 : (q + 1075).toNat < 2047 ∧ 0 < (q + 1075).toNat := by omega
    generalize (q + 1075).toNat = x at e7
    have e8 : (x * 4503599627370496 + (c - 4503599627370496)) % 2 ^ 64 = x * 4503599627370496 + (c - 4503599627370496) := Nat.mod_eq_of_lt (by omega)
    rw [e8]
    have e9 : Jvm.FP.Core.fieldE Jvm.FP.Core.b64 (x * 4503599627370496 + (c - 4503599627370496)) = x := by
      unfold Jvm.FP.Core.fieldE
      rw [eT, eE]
      omega
    unfold Jvm.FP.Core.decode
    rw [e9, eE, if_neg (by omega), if_neg (by omega), eT]
    exact ⟨_, _, _, rfl, fun _ => by omega⟩
theorem ddiv_ok {x y : Nat} (hx : x < 2147483648) (hy : y < 2147483648) (h0 : 0 < y) : vf_n64 (FP.ddiv (FP.i2d (nI x)) (FP.i2d (nI y))) := by
  obtain ⟨s, c, q, e1, -⟩ := i2d_fin' hx
  obtain ⟨t, d, r, e2, e3⟩ := i2d_fin' hy
  refine enc64 (d := Jvm.FP.Core.quotient Jvm.FP.Core.b64 (Jvm.FP.Core.decode Jvm.FP.Core.b64 (FP.i2d (nI x)).toNat) (Jvm.FP.Core.decode Jvm.FP.Core.b64 (FP.i2d (nI y)).toNat)) ?_
  rw [e1, e2]
  show okD Jvm.FP.Core.b64 (if d = 0 then _ else _)
  rw [if_neg (e3 h0)]
  exact round_ok (by decide) (by decide) _ _ _ _
theorem i2f_fin' {v : Nat} (hv : v < 16777216) : ∃ s c q, Jvm.FP.Core.decode Jvm.FP.Core.b32 (FP.i2f (nI v)).toNat = .fin s c q ∧ (0 < v → c ≠ 0) := by
  have eT : Jvm.FP.Core.b32.tails = 8388608 := by decide
  have eE : Jvm.FP.Core.b32.exps = 256 := by decide
  have eP : 2 ^ Jvm.FP.Core.b32.p = 16777216 := by decide
  have eP1 : 2 ^ (Jvm.FP.Core.b32.p - 1) = 8388608 := by decide
  have ep : (Jvm.FP.Core.b32.p : Int) = 24 := by decide
  have eQ : Jvm.FP.Core.b32.qmax = 104 := by decide
  have eq : Jvm.FP.Core.b32.qmin = -149 := by decide
  have ei : FP.i2f (nI v) = UInt32.ofNat (Jvm.FP.Core.encode Jvm.FP.Core.b32 (Jvm.FP.Core.roundRatio Jvm.FP.Core.b32 false v 1 0)) := by
    show UInt32.ofNat (Jvm.FP.Core.encode Jvm.FP.Core.b32 (Jvm.FP.Core.round Jvm.FP.Core.b32 (Jvm.FP.Core.ofInt (nI v).toInt))) = _
    rw [nI_toInt (by omega)]
    have e1 : Jvm.FP.Core.ofInt (v : Int) = .fin false v 0 := by
      unfold Jvm.FP.Core.ofInt
      rw [Int.natAbs_natCast, decide_eq_false (by omega)]
    rw [e1]
    rfl
  rw [ei, UInt32.toNat_ofNat']
  by_cases h0 : v = 0
  · subst h0
    exact ⟨false, 0, -149, by decide +kernel, fun h => absurd h (by decide)⟩
  · obtain ⟨c, q, e1, e2, e3, e4, e5⟩ := whole_ (f := Jvm.FP.Core.b32) (by decide) (by decide) (by decide) (v := v) (by omega) (by rw [eP]; omega)
    rw [eP] at e3
    rw [eP1] at e2
    rw [ep] at e5
    rw [e1]
    unfold Jvm.FP.Core.encode Jvm.FP.Core.assemble
    rw [eT, eE, eq]
    simp only [if_neg (Nat.not_lt.mpr e2)]
    have e6 : (false.toNat * 256 + ((q - -149).toNat + 1)) * 8388608 + (c - 8388608) = (q + 150).toNat * 8388608 + (c - 8388608) := by
      rw [show (q - -149).toNat + 1 = (q + 150).toNat by omega]
      simp
    rw [e6]
    have e7 : (q + 150).toNat < 255 ∧ 0 < (q + 150).toNat := by omega
    generalize (q + 150).toNat = x at e7
    have e8 : (x * 8388608 + (c - 8388608)) % 2 ^ 32 = x * 8388608 + (c - 8388608) := Nat.mod_eq_of_lt (by omega)
    rw [e8]
    have e9 : Jvm.FP.Core.fieldE Jvm.FP.Core.b32 (x * 8388608 + (c - 8388608)) = x := by
      unfold Jvm.FP.Core.fieldE
      rw [eT, eE]
      omega
    unfold Jvm.FP.Core.decode
    rw [e9, eE, if_neg (by omega), if_neg (by omega), eT]
    exact ⟨_, _, _, rfl, fun _ => by omega⟩
theorem fdiv_ok {x y : Nat} (hx : x < 16777216) (hy : y < 16777216) (h0 : 0 < y) : vf_n32 (FP.fdiv (FP.i2f (nI x)) (FP.i2f (nI y))) := by
  obtain ⟨s, c, q, e1, -⟩ := i2f_fin' hx
  obtain ⟨t, d, r, e2, e3⟩ := i2f_fin' hy
  refine enc32 (d := Jvm.FP.Core.quotient Jvm.FP.Core.b32 (Jvm.FP.Core.decode Jvm.FP.Core.b32 (FP.i2f (nI x)).toNat) (Jvm.FP.Core.decode Jvm.FP.Core.b32 (FP.i2f (nI y)).toNat)) ?_
  rw [e1, e2]
  show okD Jvm.FP.Core.b32 (if d = 0 then _ else _)
  rw [if_neg (e3 h0)]
  exact round_ok (by decide) (by decide) _ _ _ _
end FPC
