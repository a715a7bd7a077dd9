/-! floats: a quotient of ints is a number -/
set_option maxRecDepth 100000
theorem fl_enc64 (s : Bool) (c : Nat) (q : Int) (hc : c < 9007199254740992) (hq : (q - (-1074)).toNat + 1 ≤ 2046) : FP.Core.encode FP.Core.b64 (.fin s c q) % 9223372036854775808 < 2047 * 4503599627370496 ∧ FP.Core.encode FP.Core.b64 (.fin s c q) < 2 * 9223372036854775808 := by
  have hs : s.toNat ≤ 1 := by cases s <;> decide
  have ht : FP.Core.Fmt.tails FP.Core.b64 = 4503599627370496 := by decide
  have he : FP.Core.Fmt.exps FP.Core.b64 = 2048 := by decide
  have hm : FP.Core.Fmt.qmin FP.Core.b64 = (-1074) := by decide
  unfold FP.Core.encode FP.Core.assemble
  dsimp only
  rw [ht, he, hm]
  split <;> omega
theorem fl_inf64 (s : Bool) : FP.Core.encode FP.Core.b64 (.inf s) % 9223372036854775808 ≤ 2047 * 4503599627370496 := by
  cases s <;> decide
/-- what a rounding gives -/
def fl_ok64 (d : FP.Core.Datum) : Prop := (∃ s, d = .inf s) ∨ ∃ s c q, d = .fin s c q ∧ c < 9007199254740992 ∧ (q - (-1074)).toNat + 1 ≤ 2046
theorem fl_bound64 (s : Bool) (c : Nat) (q : Int) (hc : c < 9007199254740992) : fl_ok64 (FP.Core.bound FP.Core.b64 s c q) := by
  have hm : FP.Core.Fmt.qmax FP.Core.b64 = 971 := by decide
  unfold FP.Core.bound
  rw [hm]
  split
  · exact Or.inr ⟨s, c, q, rfl, hc, by omega⟩
  · exact Or.inl ⟨s, rfl⟩
theorem fl_round64 (s : Bool) (num den : Nat) (e : Int) : fl_ok64 (FP.Core.roundRatio FP.Core.b64 s num den e) := by
  have ht : FP.Core.Fmt.tails FP.Core.b64 = 4503599627370496 := by decide
  have hm : FP.Core.Fmt.qmin FP.Core.b64 = (-1074) := by decide
  unfold FP.Core.roundRatio
  split
  · exact Or.inr ⟨s, 0, _, rfl, by decide, by rw [hm]; decide⟩
  · unfold FP.Core.roundAt FP.Core.settle
    split
    · exact fl_bound64 _ _ _ (by assumption)
    · exact fl_bound64 _ _ _ (by rw [ht]; decide)
theorem fl_vf64 {d : FP.Core.Datum} (h : fl_ok64 d) : FP.Core.encode FP.Core.b64 d % 9223372036854775808 ≤ 2047 * 4503599627370496 := by
  rcases h with ⟨s, rfl⟩ | ⟨s, c, q, rfl, h1, h2⟩
  · exact fl_inf64 s
  · exact Nat.le_of_lt (fl_enc64 s c q h1 h2).1
theorem fl_dec64 (s : Bool) (c : Nat) (q : Int) (hc : c < 9007199254740992) (hq : (q - (-1074)).toNat + 1 < 2046 + 1) : ∃ s' c' q', FP.Core.decode FP.Core.b64 (FP.Core.encode FP.Core.b64 (.fin s c q)) = .fin s' c' q' ∧ (c ≠ 0 → c' ≠ 0) := by
  have hs : s.toNat ≤ 1 := by cases s <;> decide
  have ht : FP.Core.Fmt.tails FP.Core.b64 = 4503599627370496 := by decide
  have he : FP.Core.Fmt.exps FP.Core.b64 = 2048 := by decide
  have hm : FP.Core.Fmt.qmin FP.Core.b64 = (-1074) := by decide
  have key : (c < 4503599627370496 ∧ FP.Core.encode FP.Core.b64 (.fin s c q) = (s.toNat * 2048 + 0) * 4503599627370496 + c) ∨ (¬ c < 4503599627370496 ∧ FP.Core.encode FP.Core.b64 (.fin s c q) = (s.toNat * 2048 + ((q - (-1074)).toNat + 1)) * 4503599627370496 + (c - 4503599627370496)) := by
    unfold FP.Core.encode FP.Core.assemble
    dsimp only
    rw [ht, he, hm]
    by_cases z : c < 4503599627370496
    · rw [if_pos z]; exact Or.inl ⟨z, rfl⟩
    · rw [if_neg z]; exact Or.inr ⟨z, rfl⟩
  unfold FP.Core.decode FP.Core.fieldE FP.Core.fieldT
  rw [ht, he]
  rcases key with ⟨z, e⟩ | ⟨z, e⟩
  · rw [e, if_neg (by omega), if_pos (by omega)]
    exact ⟨_, _, _, rfl, fun h => by omega⟩
  · rw [e, if_neg (by omega), if_neg (by omega)]
    exact ⟨_, _, _, rfl, fun _ => by omega⟩
/-- an int as a number: finite, and not zero if the int isn't -/
theorem fl_int64 (v : Int32) : ∃ s c q, FP.Core.decode FP.Core.b64 (FP.Core.fromInt FP.Core.b64 v.toInt) = .fin s c q ∧ (v ≠ 0 → c ≠ 0) := by
  have ht : FP.Core.Fmt.tails FP.Core.b64 = 4503599627370496 := by decide
  have hm : FP.Core.Fmt.qmin FP.Core.b64 = (-1074) := by decide
  have hx : FP.Core.Fmt.qmax FP.Core.b64 = 971 := by decide
  have v1 := v.toInt_lt
  have v2 := v.le_toInt
  have hn : v ≠ 0 → v.toInt.natAbs ≠ 0 := fun h z => h (Int32.toInt.inj (by rw [show v.toInt = 0 by omega]; rfl))
  have hb : v.toInt.natAbs < 2 ^ 32 := by omega
  unfold FP.Core.fromInt FP.Core.ofInt FP.Core.round
  dsimp only
  unfold FP.Core.roundRatio
  by_cases z : v.toInt.natAbs = 0
  · rw [if_pos z]
    obtain ⟨s, c, q, e1, -⟩ := fl_dec64 (decide (v.toInt < 0)) 0 (FP.Core.Fmt.qmin FP.Core.b64) (by decide) (by rw [hm]; decide)
    exact ⟨s, c, q, e1, fun h => absurd z (hn h)⟩
  · rw [if_neg z]
    have l1 : Nat.log2 v.toInt.natAbs < 32 := (Nat.log2_lt z).mpr hb
    have l2 : FP.Core.leading v.toInt.natAbs 1 = (Nat.log2 v.toInt.natAbs : Int) := by
      unfold FP.Core.leading
      have e0 : Nat.log2 1 = 0 := by decide
      rw [e0]
      dsimp only
      rw [if_pos]
      · omega
      · have := Nat.log2_self_le z
        simpa using this
    have qe : FP.Core.quantum FP.Core.b64 v.toInt.natAbs 1 0 = (Nat.log2 v.toInt.natAbs : Int) - 52 := by
      unfold FP.Core.quantum
      rw [l2, hm]
      show max _ ((Nat.log2 v.toInt.natAbs : Int) + 0 - (((53 : Nat) : Int) - 1)) = _
      omega
    have un : 0 < FP.Core.nearest (FP.Core.unitsNum v.toInt.natAbs 0 ((Nat.log2 v.toInt.natAbs : Int) - 52)) (FP.Core.unitsDen 1 0 ((Nat.log2 v.toInt.natAbs : Int) - 52)) := by
      have nz : ∀ x d : Nat, 0 < d → d ≤ x → 0 < FP.Core.nearest x d := by
        intro x d h1 h2
        have := Nat.div_pos h2 h1
        unfold FP.Core.nearest
        split
        · omega
        · split <;> omega
      refine nz _ _ ?_ ?_
      · unfold FP.Core.unitsDen
        exact Nat.mul_pos (by decide) (Nat.pow_pos (by decide))
      · unfold FP.Core.unitsDen FP.Core.unitsNum
        have k2 := Nat.log2_self_le z
        by_cases y : Nat.log2 v.toInt.natAbs ≤ 52
        · rw [show ((Nat.log2 v.toInt.natAbs : Int) - 52 - 0).toNat = 0 by omega]
          exact Nat.mul_pos (by omega) (Nat.pow_pos (by decide))
        · rw [show (0 - ((Nat.log2 v.toInt.natAbs : Int) - 52)).toNat = 0 by omega, Nat.pow_zero, Nat.mul_one, Nat.one_mul]
          exact Nat.le_trans (Nat.pow_le_pow_right (by decide) (by omega)) k2
    unfold FP.Core.roundAt FP.Core.settle
    rw [qe]
    split
    · rename_i y
      unfold FP.Core.bound
      rw [hx, if_pos (by omega)]
      obtain ⟨s, c, q, e1, e2⟩ := fl_dec64 (decide (v.toInt < 0)) _ ((Nat.log2 v.toInt.natAbs : Int) - 52) y (by omega)
      exact ⟨s, c, q, e1, fun _ => e2 (Nat.ne_of_gt un)⟩
    · unfold FP.Core.bound
      rw [hx, ht, if_pos (by omega)]
      obtain ⟨s, c, q, e1, e2⟩ := fl_dec64 (decide (v.toInt < 0)) 4503599627370496 ((Nat.log2 v.toInt.natAbs : Int) - 52 + 1) (by decide) (by omega)
      exact ⟨s, c, q, e1, fun _ => e2 (by decide)⟩
theorem fl_enc32 (s : Bool) (c : Nat) (q : Int) (hc : c < 16777216) (hq : (q - (-149)).toNat + 1 ≤ 254) : FP.Core.encode FP.Core.b32 (.fin s c q) % 2147483648 < 255 * 8388608 ∧ FP.Core.encode FP.Core.b32 (.fin s c q) < 2 * 2147483648 := by
  have hs : s.toNat ≤ 1 := by cases s <;> decide
  have ht : FP.Core.Fmt.tails FP.Core.b32 = 8388608 := by decide
  have he : FP.Core.Fmt.exps FP.Core.b32 = 256 := by decide
  have hm : FP.Core.Fmt.qmin FP.Core.b32 = (-149) := by decide
  unfold FP.Core.encode FP.Core.assemble
  dsimp only
  rw [ht, he, hm]
  split <;> omega
theorem fl_inf32 (s : Bool) : FP.Core.encode FP.Core.b32 (.inf s) % 2147483648 ≤ 255 * 8388608 := by
  cases s <;> decide
/-- what a rounding gives -/
def fl_ok32 (d : FP.Core.Datum) : Prop := (∃ s, d = .inf s) ∨ ∃ s c q, d = .fin s c q ∧ c < 16777216 ∧ (q - (-149)).toNat + 1 ≤ 254
theorem fl_bound32 (s : Bool) (c : Nat) (q : Int) (hc : c < 16777216) : fl_ok32 (FP.Core.bound FP.Core.b32 s c q) := by
  have hm : FP.Core.Fmt.qmax FP.Core.b32 = 104 := by decide
  unfold FP.Core.bound
  rw [hm]
  split
  · exact Or.inr ⟨s, c, q, rfl, hc, by omega⟩
  · exact Or.inl ⟨s, rfl⟩
theorem fl_round32 (s : Bool) (num den : Nat) (e : Int) : fl_ok32 (FP.Core.roundRatio FP.Core.b32 s num den e) := by
  have ht : FP.Core.Fmt.tails FP.Core.b32 = 8388608 := by decide
  have hm : FP.Core.Fmt.qmin FP.Core.b32 = (-149) := by decide
  unfold FP.Core.roundRatio
  split
  · exact Or.inr ⟨s, 0, _, rfl, by decide, by rw [hm]; decide⟩
  · unfold FP.Core.roundAt FP.Core.settle
    split
    · exact fl_bound32 _ _ _ (by assumption)
    · exact fl_bound32 _ _ _ (by rw [ht]; decide)
theorem fl_vf32 {d : FP.Core.Datum} (h : fl_ok32 d) : FP.Core.encode FP.Core.b32 d % 2147483648 ≤ 255 * 8388608 := by
  rcases h with ⟨s, rfl⟩ | ⟨s, c, q, rfl, h1, h2⟩
  · exact fl_inf32 s
  · exact Nat.le_of_lt (fl_enc32 s c q h1 h2).1
theorem fl_dec32 (s : Bool) (c : Nat) (q : Int) (hc : c < 16777216) (hq : (q - (-149)).toNat + 1 < 254 + 1) : ∃ s' c' q', FP.Core.decode FP.Core.b32 (FP.Core.encode FP.Core.b32 (.fin s c q)) = .fin s' c' q' ∧ (c ≠ 0 → c' ≠ 0) := by
  have hs : s.toNat ≤ 1 := by cases s <;> decide
  have ht : FP.Core.Fmt.tails FP.Core.b32 = 8388608 := by decide
  have he : FP.Core.Fmt.exps FP.Core.b32 = 256 := by decide
  have hm : FP.Core.Fmt.qmin FP.Core.b32 = (-149) := by decide
  have key : (c < 8388608 ∧ FP.Core.encode FP.Core.b32 (.fin s c q) = (s.toNat * 256 + 0) * 8388608 + c) ∨ (¬ c < 8388608 ∧ FP.Core.encode FP.Core.b32 (.fin s c q) = (s.toNat * 256 + ((q - (-149)).toNat + 1)) * 8388608 + (c - 8388608)) := by
    unfold FP.Core.encode FP.Core.assemble
    dsimp only
    rw [ht, he, hm]
    by_cases z : c < 8388608
    · rw [if_pos z]; exact Or.inl ⟨z, rfl⟩
    · rw [if_neg z]; exact Or.inr ⟨z, rfl⟩
  unfold FP.Core.decode FP.Core.fieldE FP.Core.fieldT
  rw [ht, he]
  rcases key with ⟨z, e⟩ | ⟨z, e⟩
  · rw [e, if_neg (by omega), if_pos (by omega)]
    exact ⟨_, _, _, rfl, fun h => by omega⟩
  · rw [e, if_neg (by omega), if_neg (by omega)]
    exact ⟨_, _, _, rfl, fun _ => by omega⟩
/-- an int as a number: finite, and not zero if the int isn't -/
theorem fl_int32 (v : Int32) : ∃ s c q, FP.Core.decode FP.Core.b32 (FP.Core.fromInt FP.Core.b32 v.toInt) = .fin s c q ∧ (v ≠ 0 → c ≠ 0) := by
  have ht : FP.Core.Fmt.tails FP.Core.b32 = 8388608 := by decide
  have hm : FP.Core.Fmt.qmin FP.Core.b32 = (-149) := by decide
  have hx : FP.Core.Fmt.qmax FP.Core.b32 = 104 := by decide
  have v1 := v.toInt_lt
  have v2 := v.le_toInt
  have hn : v ≠ 0 → v.toInt.natAbs ≠ 0 := fun h z => h (Int32.toInt.inj (by rw [show v.toInt = 0 by omega]; rfl))
  have hb : v.toInt.natAbs < 2 ^ 32 := by omega
  unfold FP.Core.fromInt FP.Core.ofInt FP.Core.round
  dsimp only
  unfold FP.Core.roundRatio
  by_cases z : v.toInt.natAbs = 0
  · rw [if_pos z]
    obtain ⟨s, c, q, e1, -⟩ := fl_dec32 (decide (v.toInt < 0)) 0 (FP.Core.Fmt.qmin FP.Core.b32) (by decide) (by rw [hm]; decide)
    exact ⟨s, c, q, e1, fun h => absurd z (hn h)⟩
  · rw [if_neg z]
    have l1 : Nat.log2 v.toInt.natAbs < 32 := (Nat.log2_lt z).mpr hb
    have l2 : FP.Core.leading v.toInt.natAbs 1 = (Nat.log2 v.toInt.natAbs : Int) := by
      unfold FP.Core.leading
      have e0 : Nat.log2 1 = 0 := by decide
      rw [e0]
      dsimp only
      rw [if_pos]
      · omega
      · have := Nat.log2_self_le z
        simpa using this
    have qe : FP.Core.quantum FP.Core.b32 v.toInt.natAbs 1 0 = (Nat.log2 v.toInt.natAbs : Int) - 23 := by
      unfold FP.Core.quantum
      rw [l2, hm]
      show max _ ((Nat.log2 v.toInt.natAbs : Int) + 0 - (((24 : Nat) : Int) - 1)) = _
      omega
    have un : 0 < FP.Core.nearest (FP.Core.unitsNum v.toInt.natAbs 0 ((Nat.log2 v.toInt.natAbs : Int) - 23)) (FP.Core.unitsDen 1 0 ((Nat.log2 v.toInt.natAbs : Int) - 23)) := by
      have nz : ∀ x d : Nat, 0 < d → d ≤ x → 0 < FP.Core.nearest x d := by
        intro x d h1 h2
        have := Nat.div_pos h2 h1
        unfold FP.Core.nearest
        split
        · omega
        · split <;> omega
      refine nz _ _ ?_ ?_
      · unfold FP.Core.unitsDen
        exact Nat.mul_pos (by decide) (Nat.pow_pos (by decide))
      · unfold FP.Core.unitsDen FP.Core.unitsNum
        have k2 := Nat.log2_self_le z
        by_cases y : Nat.log2 v.toInt.natAbs ≤ 23
        · rw [show ((Nat.log2 v.toInt.natAbs : Int) - 23 - 0).toNat = 0 by omega]
          exact Nat.mul_pos (by omega) (Nat.pow_pos (by decide))
        · rw [show (0 - ((Nat.log2 v.toInt.natAbs : Int) - 23)).toNat = 0 by omega, Nat.pow_zero, Nat.mul_one, Nat.one_mul]
          exact Nat.le_trans (Nat.pow_le_pow_right (by decide) (by omega)) k2
    unfold FP.Core.roundAt FP.Core.settle
    rw [qe]
    split
    · rename_i y
      unfold FP.Core.bound
      rw [hx, if_pos (by omega)]
      obtain ⟨s, c, q, e1, e2⟩ := fl_dec32 (decide (v.toInt < 0)) _ ((Nat.log2 v.toInt.natAbs : Int) - 23) y (by omega)
      exact ⟨s, c, q, e1, fun _ => e2 (Nat.ne_of_gt un)⟩
    · unfold FP.Core.bound
      rw [hx, ht, if_pos (by omega)]
      obtain ⟨s, c, q, e1, e2⟩ := fl_dec32 (decide (v.toInt < 0)) 8388608 ((Nat.log2 v.toInt.natAbs : Int) - 23 + 1) (by decide) (by omega)
      exact ⟨s, c, q, e1, fun _ => e2 (by decide)⟩
theorem fl_lt64 {d : FP.Core.Datum} (h : fl_ok64 d) : FP.Core.encode FP.Core.b64 d < 2 * 9223372036854775808 := by
  rcases h with ⟨s, rfl⟩ | ⟨s, c, q, rfl, h1, h2⟩
  · cases s <;> decide
  · exact (fl_enc64 s c q h1 h2).2
theorem fl_toNat64 (v : Int32) : (FP.i2d v).toNat = FP.Core.fromInt FP.Core.b64 v.toInt := by
  have h : FP.Core.fromInt FP.Core.b64 v.toInt < 2 * 9223372036854775808 := fl_lt64 (fl_round64 _ _ _ _)
  show FP.Core.fromInt FP.Core.b64 v.toInt % 2 ^ 64 = _
  exact Nat.mod_eq_of_lt (by omega)
theorem vf_ddiv (x : Int32) {y : Int32} (h : y ≠ 0) : vf_n64 (FP.ddiv (FP.i2d x) (FP.i2d y)) := by
  obtain ⟨s, c, q, e1, -⟩ := fl_int64 x
  obtain ⟨s', c', q', e2, e3⟩ := fl_int64 y
  have hq : FP.Core.div FP.Core.b64 (FP.i2d x).toNat (FP.i2d y).toNat = FP.Core.encode FP.Core.b64 (FP.Core.roundRatio FP.Core.b64 (s != s') c c' (q - q')) := by
    unfold FP.Core.div
    rw [fl_toNat64, fl_toNat64, e1, e2]
    show FP.Core.encode FP.Core.b64 (if c' = 0 then _ else _) = _
    rw [if_neg (e3 h)]
  have hk := fl_round64 (s != s') c c' (q - q')
  have h1 := fl_vf64 hk
  have h2 := fl_lt64 hk
  have ht : (FP.ddiv (FP.i2d x) (FP.i2d y)).toNat = FP.Core.encode FP.Core.b64 (FP.Core.roundRatio FP.Core.b64 (s != s') c c' (q - q')) := by
    show FP.Core.div FP.Core.b64 (FP.i2d x).toNat (FP.i2d y).toNat % 2 ^ 64 = _
    rw [hq]
    exact Nat.mod_eq_of_lt (by omega)
  unfold vf_n64
  rw [UInt64.le_iff_toNat_le, UInt64.toNat_and, show (0x7fffffffffffffff : UInt64).toNat = 2 ^ 63 - 1 by decide, Nat.and_two_pow_sub_one_eq_mod, ht]
  exact h1
theorem fl_lt32 {d : FP.Core.Datum} (h : fl_ok32 d) : FP.Core.encode FP.Core.b32 d < 2 * 2147483648 := by
  rcases h with ⟨s, rfl⟩ | ⟨s, c, q, rfl, h1, h2⟩
  · cases s <;> decide
  · exact (fl_enc32 s c q h1 h2).2
theorem fl_toNat32 (v : Int32) : (FP.i2f v).toNat = FP.Core.fromInt FP.Core.b32 v.toInt := by
  have h : FP.Core.fromInt FP.Core.b32 v.toInt < 2 * 2147483648 := fl_lt32 (fl_round32 _ _ _ _)
  show FP.Core.fromInt FP.Core.b32 v.toInt % 2 ^ 32 = _
  exact Nat.mod_eq_of_lt (by omega)
theorem vf_fdiv (x : Int32) {y : Int32} (h : y ≠ 0) : vf_n32 (FP.fdiv (FP.i2f x) (FP.i2f y)) := by
  obtain ⟨s, c, q, e1, -⟩ := fl_int32 x
  obtain ⟨s', c', q', e2, e3⟩ := fl_int32 y
  have hq : FP.Core.div FP.Core.b32 (FP.i2f x).toNat (FP.i2f y).toNat = FP.Core.encode FP.Core.b32 (FP.Core.roundRatio FP.Core.b32 (s != s') c c' (q - q')) := by
    unfold FP.Core.div
    rw [fl_toNat32, fl_toNat32, e1, e2]
    show FP.Core.encode FP.Core.b32 (if c' = 0 then _ else _) = _
    rw [if_neg (e3 h)]
  have hk := fl_round32 (s != s') c c' (q - q')
  have h1 := fl_vf32 hk
  have h2 := fl_lt32 hk
  have ht : (FP.fdiv (FP.i2f x) (FP.i2f y)).toNat = FP.Core.encode FP.Core.b32 (FP.Core.roundRatio FP.Core.b32 (s != s') c c' (q - q')) := by
    show FP.Core.div FP.Core.b32 (FP.i2f x).toNat (FP.i2f y).toNat % 2 ^ 32 = _
    rw [hq]
    exact Nat.mod_eq_of_lt (by omega)
  unfold vf_n32
  rw [UInt32.le_iff_toNat_le, UInt32.toNat_and, show (0x7fffffff : UInt32).toNat = 2 ^ 31 - 1 by decide, Nat.and_two_pow_sub_one_eq_mod, ht]
  exact h1
