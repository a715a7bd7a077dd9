/-! the component's smallest: statics, bowls, loaves, fractions -/
set_option maxRecDepth 100000
section
variable {K : g_K} {W : c_W} {a n : Nat} {h : g_P}
theorem k_divisor1 : ∀ (k x y : Nat), y ≤ k → x < 2147483648 → y < 2147483648 → g_Met K mX1_divisor k 0 0 [.int (nI x), .int (nI y)] h n (gI fun r h' n' => r = nI (Nat.gcd x y) ∧ h' = h ∧ n' = n) gN := by
  intro k
  induction k with
  | zero =>
    intro x y hy hx hy2
    have : y = 0 := by omega
    subst this
    refine g_Met.of (M := mX1_divisor) (L := [some (.int (nI x)), some (.int (nI 0))]) (by decide +kernel) (Nat.le_of_ble_eq_true rfl) rfl ?_
    refine r_iload1 dX1_divisor_0 ?_
    refine r_if_neN (tgt := 8) dX1_divisor_1 (by decide) (by omega) (fun c1 => absurd c1 (by omega)) (fun c1 => ?_)
    refine r_iload0 dX1_divisor_4 ?_
    refine r_goto (tgt := 15) dX1_divisor_5 (by decide) ?_
    exact r_ireturn dX1_divisor_15 rfl rfl (⟨by rw [Nat.gcd_zero_right], rfl, rfl⟩)
  | succ k ih =>
    intro x y hy hx hy2
    by_cases y0 : y = 0
    · subst y0
      refine g_Met.of (M := mX1_divisor) (L := [some (.int (nI x)), some (.int (nI 0))]) (by decide +kernel) (Nat.le_of_ble_eq_true rfl) rfl ?_
      refine r_iload1 dX1_divisor_0 ?_
      refine r_if_neN (tgt := 8) dX1_divisor_1 (by decide) (by omega) (fun c1 => absurd c1 (by omega)) (fun c1 => ?_)
      refine r_iload0 dX1_divisor_4 ?_
      refine r_goto (tgt := 15) dX1_divisor_5 (by decide) ?_
      exact r_ireturn dX1_divisor_15 rfl rfl (⟨by rw [Nat.gcd_zero_right], rfl, rfl⟩)
    · have hlt : x % y < y := Nat.mod_lt _ (by omega)
      refine g_Met.of (M := mX1_divisor) (L := [some (.int (nI x)), some (.int (nI y))]) (by decide +kernel) (Nat.le_of_ble_eq_true rfl) rfl ?_
      refine r_iload1 dX1_divisor_0 ?_
      refine r_if_neN (tgt := 8) dX1_divisor_1 (by decide) (by omega) (fun c1 => ?_) (fun c1 => absurd c1 (by omega))
      refine r_iload1 dX1_divisor_8 ?_
      refine r_iload0 dX1_divisor_9 ?_
      refine r_iload1 dX1_divisor_10 ?_
      refine r_irem dX1_divisor_11 (nI_ne0 (by omega) (by omega)) (by first | exact pk_rem (by omega) (by omega) (by omega) | rfl) ?_
      refine r_callS (M' := mX1_divisor) _ dX1_divisor_12 q2192 q2190 rfl (lw_all_tbl q2191) q125 (by exact pl_X1_divisor)  ((ih y (x % y) (by omega) (by omega) (by omega))) (by omega) (Nat.le_of_ble_eq_true rfl) (by omega) (by omega) rfl (Nat.le_of_ble_eq_true rfl) rfl (kI fun r12 h12 n12 e12 => ?_) kN
      obtain ⟨q9, q8, q7⟩ := e12; have q9 := q9.symm; have q8 := q8.symm; have q7 := q7.symm; subst q9; subst q8; subst q7
      exact r_ireturn dX1_divisor_15 rfl rfl (⟨by rw [Nat.gcd_comm x y, Nat.gcd_rec y x, Nat.gcd_comm], rfl, rfl⟩)
theorem k_isBetween1 {x y z : Int32} : g_Met K mX1_isBetween 0 0 0 [.int x, .int y, .int z] h n (gI fun r h' n' => r = nB (y ≤ x ∧ x ≤ z) ∧ h' = h ∧ n' = n) gN := by
  refine g_Met.of (M := mX1_isBetween) (L := [some (.int x), some (.int y), some (.int z)]) (by decide +kernel) (Nat.le_of_ble_eq_true rfl) rfl ?_
  refine r_iload0 dX1_isBetween_0 ?_
  refine r_iload1 dX1_isBetween_1 ?_
  refine r_icmp_lt (tgt := 14) dX1_isBetween_2 (by decide) (fun c2 => ?_) (fun c2 => ?_)
  · refine r_iconst (v := nI 0) dX1_isBetween_14 (by decide) ?_
    exact r_ireturn dX1_isBetween_15 rfl (by first | exact nB_nar | rfl) (⟨nB_f (fun q => absurd q.1 (Int32.not_le.mpr c2)), rfl, rfl⟩)
  · refine r_iload0 dX1_isBetween_5 ?_
    refine r_iload2 dX1_isBetween_6 ?_
    refine r_icmp_gt (tgt := 14) dX1_isBetween_7 (by decide) (fun c7 => ?_) (fun c7 => ?_)
    · refine r_iconst (v := nI 0) dX1_isBetween_14 (by decide) ?_
      exact r_ireturn dX1_isBetween_15 rfl (by first | exact nB_nar | rfl) (⟨nB_f (fun q => absurd q.2 (Int32.not_le.mpr c7)), rfl, rfl⟩)
    · refine r_iconst (v := nI 1) dX1_isBetween_10 (by decide) ?_
      refine r_goto (tgt := 15) dX1_isBetween_11 (by decide) ?_
      exact r_ireturn dX1_isBetween_15 rfl (by first | exact nB_nar | rfl) (⟨nB_t ⟨Int32.not_lt.mp c2, Int32.not_lt.mp c7⟩, rfl, rfl⟩)
theorem k_isRule1 {x : Int32} : g_Met K mX1_isRule 0 0 0 [.int x] h n (gI fun r h' n' => r = nB (ruI x) ∧ h' = h ∧ n' = n) gN := by
  refine g_Met.of (M := mX1_isRule) (L := [some (.int x)]) (by decide +kernel) (Nat.le_of_ble_eq_true rfl) rfl ?_
  refine r_iload0 dX1_isRule_0 ?_
  refine r_bipush (v := nI 100) dX1_isRule_1 (by decide) ?_
  refine r_icmp_eq (tgt := 24) dX1_isRule_3 (by decide) (fun c3 => ?_) (fun c3 => ?_)
  · refine r_iconst (v := nI 1) dX1_isRule_24 (by decide) ?_
    refine r_goto (tgt := 29) dX1_isRule_25 (by decide) ?_
    exact r_ireturn dX1_isRule_29 rfl (by first | exact nB_nar | rfl) (⟨nB_t (Or.inl c3), rfl, rfl⟩)
  · refine r_iload0 dX1_isRule_6 ?_
    refine r_bipush (v := nI 117) dX1_isRule_7 (by decide) ?_
    refine r_icmp_eq (tgt := 24) dX1_isRule_9 (by decide) (fun c9 => ?_) (fun c9 => ?_)
    · refine r_iconst (v := nI 1) dX1_isRule_24 (by decide) ?_
      refine r_goto (tgt := 29) dX1_isRule_25 (by decide) ?_
      exact r_ireturn dX1_isRule_29 rfl (by first | exact nB_nar | rfl) (⟨nB_t (Or.inr (Or.inl c9)), rfl, rfl⟩)
    · refine r_iload0 dX1_isRule_12 ?_
      refine r_bipush (v := nI 104) dX1_isRule_13 (by decide) ?_
      refine r_icmp_eq (tgt := 24) dX1_isRule_15 (by decide) (fun c15 => ?_) (fun c15 => ?_)
      · refine r_iconst (v := nI 1) dX1_isRule_24 (by decide) ?_
        refine r_goto (tgt := 29) dX1_isRule_25 (by decide) ?_
        exact r_ireturn dX1_isRule_29 rfl (by first | exact nB_nar | rfl) (⟨nB_t (Or.inr (Or.inr (Or.inl c15))), rfl, rfl⟩)
      · refine r_iload0 dX1_isRule_18 ?_
        refine r_bipush (v := nI 101) dX1_isRule_19 (by decide) ?_
        refine r_icmp_ne (tgt := 28) dX1_isRule_21 (by decide) (fun c21 => ?_) (fun c21 => ?_)
        · refine r_iconst (v := nI 0) dX1_isRule_28 (by decide) ?_
          exact r_ireturn dX1_isRule_29 rfl (by first | exact nB_nar | rfl) (⟨nB_f (by rintro (q | q | q | q); exact c3 q; exact c9 q; exact c15 q; exact c21 q), rfl, rfl⟩)
        · refine r_iconst (v := nI 1) dX1_isRule_24 (by decide) ?_
          refine r_goto (tgt := 29) dX1_isRule_25 (by decide) ?_
          exact r_ireturn dX1_isRule_29 rfl (by first | exact nB_nar | rfl) (⟨nB_t (Or.inr (Or.inr (Or.inr (c21)))), rfl, rfl⟩)
theorem k_power1 {s : Nat} (hs : s ≤ 4) : g_Met K mX1_power 0 0 0 [.int (nI s)] h n (gI fun r h' n' => r = nI (10 ^ s) ∧ h' = h ∧ n' = n) gN := by
  have loop : ∀ (g k : Nat), k + g = s → g_G K mX1_power 0 0 0 (gI fun r h' n' => r = nI (10 ^ s) ∧ h' = h ∧ n' = n) gN 4 [some (.int (nI s)), some (.int (nI (10 ^ k))), some (.int (nI k))] [] h n := by
    intro g
    induction g with
    | zero =>
      intro k hk
      have : k = s := by omega
      subst this
      refine r_iload2 dX1_power_4 ?_
      refine r_iload0 dX1_power_5 ?_
      refine r_icmp_geN (tgt := 20) dX1_power_6 (by decide) (by omega) (by omega) (fun c6 => ?_) (fun c6 => absurd c6 (by omega))
      refine r_iload1 dX1_power_20 ?_
      exact r_ireturn dX1_power_21 rfl rfl (⟨rfl, rfl, rfl⟩)
    | succ g ih =>
      intro k hk
      refine r_iload2 dX1_power_4 ?_
      refine r_iload0 dX1_power_5 ?_
      refine r_icmp_geN (tgt := 20) dX1_power_6 (by decide) (by omega) (by omega) (fun c6 => absurd c6 (by omega)) (fun c6 => ?_)
      refine r_iload1 dX1_power_9 ?_
      refine r_bipush (v := nI 10) dX1_power_10 (by decide) ?_
      refine r_imul dX1_power_12 (show _ = nI (10 ^ (k + 1)) by rw [pk_mul, Nat.pow_succ]) ?_
      refine r_istore1 dX1_power_13 ?_
      refine r_iinc2 dX1_power_14 (ii1 _) ?_
      refine r_goto (tgt := 4) dX1_power_17 (by decide) ?_
      exact ih (k + 1) (by omega)
  refine g_Met.of (M := mX1_power) (L := [some (.int (nI s)), none, none]) (by decide +kernel) (Nat.le_of_ble_eq_true rfl) rfl ?_
  refine r_iconst (v := nI 1) dX1_power_0 (by decide) ?_
  refine r_istore1 dX1_power_1 ?_
  refine r_iconst (v := nI 0) dX1_power_2 (by decide) ?_
  refine r_istore2 dX1_power_3 ?_
  exact loop s 0 (by omega)
theorem k_X7_init {c x : Int32} {v0 v1 : Value} (hb : k_b K ≤ a) (ho : h a = some (g_ob 5 [v0, v1])) : g_Met K mX7_init 1 0 0 [.ref a, .int c, .int x] h n (gV fun h' n' => h' = g_up h a (g_ob 5 [.int c, .int x]) ∧ n' = n) gN := by
  refine g_Met.of (M := mX7_init) (L := [some (.ref a), some (.int c), some (.int x)]) (by decide +kernel) (Nat.le_of_ble_eq_true rfl) rfl ?_
  refine r_aload0 dX7_init_0 ?_
  refine r_objInit dX7_init_1 q2220 q200 q201 rfl (by omega) (Nat.le_of_ble_eq_true rfl) ?_
  refine r_aload0 dX7_init_4 ?_
  refine r_iload1 dX7_init_5 ?_
  refine p_X7_7_X7 dX7_init_6 (by omega) (by first | assumption | exact g_us | (rw [g_un (by omega)]; assumption) | (rw [g_un (by omega)]; exact g_us) | (rw [g_un (by omega), g_un (by omega)]; assumption) | (rw [g_un (by omega), g_un (by omega)]; exact g_us) | (rw [g_un (by omega), g_un (by omega), g_un (by omega)]; assumption) | ((repeat (rw [g_un (by omega)])); first | exact g_us | assumption)) ?_
  refine r_aload0 dX7_init_9 ?_
  refine r_iload2 dX7_init_10 ?_
  refine p_X7_13_X7 dX7_init_11 (by omega) g_us ?_
  exact r_return dX7_init_14 rfl (⟨by rw [g_up_up], rfl⟩)
theorem k_room {c x : Nat} (hx : x ≤ c) (ho : h a = some (g_ob 5 [.int (nI c), .int (nI x)])) : g_Met K mX7_room 0 0 0 [.ref a] h n (gI fun r h' n' => r = nI (c - x) ∧ h' = h ∧ n' = n) gN := by
  refine g_Met.of (M := mX7_room) (L := [some (.ref a)]) (by decide +kernel) (Nat.le_of_ble_eq_true rfl) rfl ?_
  refine r_aload0 dX7_room_0 ?_
  refine f_X7_7_X7 dX7_room_1 (by first | assumption | exact g_us | (rw [g_un (by omega)]; assumption) | (rw [g_un (by omega)]; exact g_us) | (rw [g_un (by omega), g_un (by omega)]; assumption) | (rw [g_un (by omega), g_un (by omega)]; exact g_us) | (rw [g_un (by omega), g_un (by omega), g_un (by omega)]; assumption) | ((repeat (rw [g_un (by omega)])); first | exact g_us | assumption)) ?_
  refine r_aload0 dX7_room_4 ?_
  refine f_X7_13_X7 dX7_room_5 (by first | assumption | exact g_us | (rw [g_un (by omega)]; assumption) | (rw [g_un (by omega)]; exact g_us) | (rw [g_un (by omega), g_un (by omega)]; assumption) | (rw [g_un (by omega), g_un (by omega)]; exact g_us) | (rw [g_un (by omega), g_un (by omega), g_un (by omega)]; assumption) | ((repeat (rw [g_un (by omega)])); first | exact g_us | assumption)) ?_
  refine r_isub dX7_room_8 (by first | exact pk_sub (by omega) | rfl) ?_
  exact r_ireturn dX7_room_9 rfl rfl (⟨rfl, rfl, rfl⟩)
theorem k_X8_init {c x y : Int32} {v0 v1 v2 : Value} (hb : k_b K ≤ a) (ho : h a = some (g_ob 6 [v0, v1, v2])) : g_Met K mX8_init 1 0 0 [.ref a, .int c, .int x, .int y] h n (gV fun h' n' => h' = g_up h a (g_ob 6 [.int c, .int x, .int y]) ∧ n' = n) gN := by
  refine g_Met.of (M := mX8_init) (L := [some (.ref a), some (.int c), some (.int x), some (.int y)]) (by decide +kernel) (Nat.le_of_ble_eq_true rfl) rfl ?_
  refine r_aload0 dX8_init_0 ?_
  refine r_objInit dX8_init_1 q2296 q200 q201 rfl (by omega) (Nat.le_of_ble_eq_true rfl) ?_
  refine r_aload0 dX8_init_4 ?_
  refine r_iload1 dX8_init_5 ?_
  refine p_X8_7_X8 dX8_init_6 (by omega) (by first | assumption | exact g_us | (rw [g_un (by omega)]; assumption) | (rw [g_un (by omega)]; exact g_us) | (rw [g_un (by omega), g_un (by omega)]; assumption) | (rw [g_un (by omega), g_un (by omega)]; exact g_us) | (rw [g_un (by omega), g_un (by omega), g_un (by omega)]; assumption) | ((repeat (rw [g_un (by omega)])); first | exact g_us | assumption)) ?_
  refine r_aload0 dX8_init_9 ?_
  refine r_iload2 dX8_init_10 ?_
  refine p_X8_13_X8 dX8_init_11 (by omega) g_us ?_
  refine r_aload0 dX8_init_14 ?_
  refine r_iload3 dX8_init_15 ?_
  refine p_X8_16_X8 dX8_init_16 (by omega) g_us ?_
  exact r_return dX8_init_19 rfl (⟨by rw [g_up_up, g_up_up], rfl⟩)
theorem k_X8_copy {c x y : Int32} (ho : h a = some (g_ob 6 [.int c, .int x, .int y])) : g_Met K mX8_copy 2 1 3 [.ref a] h n (gA fun r h' n' => r = .ref n ∧ h' = g_up h n (g_ob 6 [.int c, .int x, .int y]) ∧ n' = n + 1) gN := by
  refine g_Met.facts fun f1 f2 f3 => ?_
  have hn := f2 _ _ ho
  refine g_Met.of (M := mX8_copy) (L := [some (.ref a)]) (by decide +kernel) (Nat.le_of_ble_eq_true rfl) rfl ?_
  refine n_X8_8 dX8_copy_0 (by omega) (by omega) ?_
  refine r_dup dX8_copy_3 ?_
  refine r_aload0 dX8_copy_4 ?_
  refine f_X8_7_X8 dX8_copy_5 (by rw [g_un (by omega)]; exact ho) ?_
  refine r_aload0 dX8_copy_8 ?_
  refine f_X8_13_X8 dX8_copy_9 (by rw [g_un (by omega)]; exact ho) ?_
  refine r_aload0 dX8_copy_12 ?_
  refine f_X8_16_X8 dX8_copy_13 (by rw [g_un (by omega)]; exact ho) ?_
  refine r_callI (M' := mX8_init) _ dX8_copy_16 q2293 q2294 rfl rfl rfl (lw_all_tbl q2295) q174 (by exact pl_X8_init)  ((k_X8_init (a := n) f1 g_us)) (by omega) (Nat.le_of_ble_eq_true rfl) (by omega) (by omega) rfl (Nat.le_of_ble_eq_true rfl) rfl (kV fun h16 n16 e16 => ?_) kN
  obtain ⟨q8, q7⟩ := e16; have q8 := q8.symm; have q7 := q7.symm; subst q8; subst q7
  exact r_areturn dX8_copy_19 rfl (Or.inl ⟨_, rfl⟩) (Or.inr ⟨_, rfl⟩) (⟨rfl, by rw [g_up_up], rfl⟩)
theorem k_X6_init {x y : Nat} {v0 v1 : Value} (hx : x < 2147483648) (hy : 1 ≤ y) (hy2 : y ≤ 144) (hb : k_b K ≤ a) (ho : h a = some (g_ob 4 [v0, v1])) : g_Met K mX6_init 146 0 0 [.ref a, .int (nI x), .int (nI y)] h n (gV fun h' n' => h' = g_up h a (g_ob 4 [.int (nI (x / Nat.gcd x y)), .int (nI (y / Nat.gcd x y))]) ∧ n' = n) gN := by
  have g1 : 1 ≤ Nat.gcd x y := Nat.gcd_pos_of_pos_right _ hy
  have g2 : Nat.gcd x y ≤ y := Nat.gcd_le_right _ hy
  refine g_Met.of (M := mX6_init) (L := [some (.ref a), some (.int (nI x)), some (.int (nI y)), none]) (by decide +kernel) (Nat.le_of_ble_eq_true rfl) rfl ?_
  refine r_aload0 dX6_init_0 ?_
  refine r_objInit dX6_init_1 q2188 q200 q201 rfl (by omega) (Nat.le_of_ble_eq_true rfl) ?_
  refine r_iload1 dX6_init_4 ?_
  refine r_iload2 dX6_init_5 ?_
  refine r_callSN (M' := mX1_divisor) _ dX6_init_6 q2189 q2190 rfl (lw_all_tbl q2191) q125 (by exact pl_X1_divisor)  ((k_divisor1 144 x y hy2 hx (by omega))) (by omega) (Nat.le_of_ble_eq_true rfl) (by omega) (by omega) rfl (Nat.le_of_ble_eq_true rfl) rfl (kI fun r6 h6 n6 e6 => ?_) kN
  obtain ⟨q9, q8, q7⟩ := e6; have q9 := q9.symm; have q8 := q8.symm; have q7 := q7.symm; subst q9; subst q8; subst q7
  refine r_istore3 dX6_init_9 ?_
  refine r_aload0 dX6_init_10 ?_
  refine r_iload1 dX6_init_11 ?_
  refine r_iload3 dX6_init_12 ?_
  refine r_idiv dX6_init_13 (nI_ne0 (by omega) (by omega)) (by first | exact pk_div (by omega) (by omega) (by omega) | rfl) ?_
  refine p_X6_13_X6 dX6_init_14 (by omega) (by first | assumption | exact g_us | (rw [g_un (by omega)]; assumption) | (rw [g_un (by omega)]; exact g_us) | (rw [g_un (by omega), g_un (by omega)]; assumption) | (rw [g_un (by omega), g_un (by omega)]; exact g_us) | (rw [g_un (by omega), g_un (by omega), g_un (by omega)]; assumption) | ((repeat (rw [g_un (by omega)])); first | exact g_us | assumption)) ?_
  refine r_aload0 dX6_init_17 ?_
  refine r_iload2 dX6_init_18 ?_
  refine r_iload3 dX6_init_19 ?_
  refine r_idiv dX6_init_20 (nI_ne0 (by omega) (by omega)) (by first | exact pk_div (by omega) (by omega) (by omega) | rfl) ?_
  refine p_X6_19_X6 dX6_init_21 (by omega) g_us ?_
  exact r_return dX6_init_24 rfl (⟨by rw [g_up_up], rfl⟩)
theorem k_plus {b x y x2 y2 : Nat} (ho : h a = some (g_ob 4 [.int (nI x), .int (nI y)])) (ho2 : h b = some (g_ob 4 [.int (nI x2), .int (nI y2)])) (h1 : x ≤ 9999) (h2 : 1 ≤ y) (h3 : y ≤ 12) (h4 : x2 ≤ 9999) (h5 : 1 ≤ y2) (h6 : y2 ≤ 12) : g_Met K mX6_plus 147 1 2 [.ref a, .ref b] h n (gA fun r h' n' => r = .ref n ∧ h' = g_up h n (g_ob 4 [.int (nI ((x * y2 + x2 * y) / Nat.gcd (x * y2 + x2 * y) (y * y2))), .int (nI (y * y2 / Nat.gcd (x * y2 + x2 * y) (y * y2)))]) ∧ n' = n + 1) gN := by
  refine g_Met.facts fun f1 f2 f3 => ?_
  have hn := f2 _ _ ho
  have hn2 := f2 _ _ ho2
  have m1 : x * y2 ≤ 9999 * 12 := Nat.mul_le_mul h1 h6
  have m2 : x2 * y ≤ 9999 * 12 := Nat.mul_le_mul h4 h3
  have m3 : y * y2 ≤ 12 * 12 := Nat.mul_le_mul h3 h6
  have m4 : 1 ≤ y * y2 := Nat.mul_pos h2 h5
  refine g_Met.of (M := mX6_plus) (L := [some (.ref a), some (.ref b)]) (by decide +kernel) (Nat.le_of_ble_eq_true rfl) rfl ?_
  refine n_X6_14 dX6_plus_0 (by omega) (by omega) ?_
  refine r_dup dX6_plus_3 ?_
  refine r_aload0 dX6_plus_4 ?_
  refine f_X6_13_X6 dX6_plus_5 (by rw [g_un (by omega)]; exact ho) ?_
  refine r_aload1 dX6_plus_8 ?_
  refine f_X6_19_X6 dX6_plus_9 (by rw [g_un (by omega)]; exact ho2) ?_
  refine r_imul dX6_plus_12 (pk_mul _ _) ?_
  refine r_aload1 dX6_plus_13 ?_
  refine f_X6_13_X6 dX6_plus_14 (by rw [g_un (by omega)]; exact ho2) ?_
  refine r_aload0 dX6_plus_17 ?_
  refine f_X6_19_X6 dX6_plus_18 (by rw [g_un (by omega)]; exact ho) ?_
  refine r_imul dX6_plus_21 (pk_mul _ _) ?_
  refine r_iadd dX6_plus_22 (by first | exact nI_add _ _ | rfl) ?_
  refine r_aload0 dX6_plus_23 ?_
  refine f_X6_19_X6 dX6_plus_24 (by rw [g_un (by omega)]; exact ho) ?_
  refine r_aload1 dX6_plus_27 ?_
  refine f_X6_19_X6 dX6_plus_28 (by rw [g_un (by omega)]; exact ho2) ?_
  refine r_imul dX6_plus_31 (pk_mul _ _) ?_
  refine r_callI (M' := mX6_init) _ dX6_plus_32 q2407 q2186 rfl rfl rfl (lw_all_tbl q2187) q146 (by exact pl_X6_init)  ((k_X6_init (a := n) (by omega) m4 (by omega) f1 g_us)) (by omega) (Nat.le_of_ble_eq_true rfl) (by omega) (by omega) rfl (Nat.le_of_ble_eq_true rfl) rfl (kV fun h32 n32 e32 => ?_) kN
  obtain ⟨q8, q7⟩ := e32; have q8 := q8.symm; have q7 := q7.symm; subst q8; subst q7
  exact r_areturn dX6_plus_35 rfl (Or.inl ⟨_, rfl⟩) (Or.inr ⟨_, rfl⟩) (⟨rfl, by rw [g_up_up], rfl⟩)
theorem k_isDough1 {x y : Nat} (hx : x < 2147483648) (hy : y < 2147483648) (ho : h a = some (g_ob 4 [.int (nI x), .int (nI y)])) : g_Met K mX6_isDough 0 0 0 [.ref a] h n (gI fun r h' n' => r = nB (x ≤ 9999 ∧ y ≤ 12) ∧ h' = h ∧ n' = n) gN := by
  refine g_Met.of (M := mX6_isDough) (L := [some (.ref a)]) (by decide +kernel) (Nat.le_of_ble_eq_true rfl) rfl ?_
  refine r_aload0 dX6_isDough_0 ?_
  refine f_X6_13_X6 dX6_isDough_1 (by first | assumption | exact g_us | (rw [g_un (by omega)]; assumption) | (rw [g_un (by omega)]; exact g_us) | (rw [g_un (by omega), g_un (by omega)]; assumption) | (rw [g_un (by omega), g_un (by omega)]; exact g_us) | (rw [g_un (by omega), g_un (by omega), g_un (by omega)]; assumption) | ((repeat (rw [g_un (by omega)])); first | exact g_us | assumption)) ?_
  refine r_sipush (v := nI 9999) dX6_isDough_4 (by decide) ?_
  refine r_icmp_gtN (tgt := 23) dX6_isDough_7 (by decide) (by omega) (by omega) (fun c7 => ?_) (fun c7 => ?_)
  · refine r_iconst (v := nI 0) dX6_isDough_23 (by decide) ?_
    exact r_ireturn dX6_isDough_24 rfl (by first | exact nB_nar | rfl) (⟨nB_f (by omega), rfl, rfl⟩)
  · refine r_aload0 dX6_isDough_10 ?_
    refine f_X6_19_X6 dX6_isDough_11 (by first | assumption | exact g_us | (rw [g_un (by omega)]; assumption) | (rw [g_un (by omega)]; exact g_us) | (rw [g_un (by omega), g_un (by omega)]; assumption) | (rw [g_un (by omega), g_un (by omega)]; exact g_us) | (rw [g_un (by omega), g_un (by omega), g_un (by omega)]; assumption) | ((repeat (rw [g_un (by omega)])); first | exact g_us | assumption)) ?_
    refine r_bipush (v := nI 12) dX6_isDough_14 (by decide) ?_
    refine r_icmp_gtN (tgt := 23) dX6_isDough_16 (by decide) (by omega) (by omega) (fun c16 => ?_) (fun c16 => ?_)
    · refine r_iconst (v := nI 0) dX6_isDough_23 (by decide) ?_
      exact r_ireturn dX6_isDough_24 rfl (by first | exact nB_nar | rfl) (⟨nB_f (by omega), rfl, rfl⟩)
    · refine r_iconst (v := nI 1) dX6_isDough_19 (by decide) ?_
      refine r_goto (tgt := 24) dX6_isDough_20 (by decide) ?_
      exact r_ireturn dX6_isDough_24 rfl (by first | exact nB_nar | rfl) (⟨nB_t (by omega), rfl, rfl⟩)
theorem k_X6_compareTo_2 {b x y x2 y2 : Nat} (ho : h a = some (g_ob 4 [.int (nI x), .int (nI y)])) (ho2 : h b = some (g_ob 4 [.int (nI x2), .int (nI y2)])) : g_Met K mX6_compareTo_2 1 0 0 [.ref a, .ref b] h n (gI fun r h' n' => r = cmI (nI (x2 * y)) (nI (x * y2)) ∧ h' = h ∧ n' = n) gN := by
  refine g_Met.of (M := mX6_compareTo_2) (L := [some (.ref a), some (.ref b)]) (by decide +kernel) (Nat.le_of_ble_eq_true rfl) rfl ?_
  refine r_aload1 dX6_compareTo_2_0 ?_
  refine f_X6_13_X6 dX6_compareTo_2_1 (by first | assumption | exact g_us | (rw [g_un (by omega)]; assumption) | (rw [g_un (by omega)]; exact g_us) | (rw [g_un (by omega), g_un (by omega)]; assumption) | (rw [g_un (by omega), g_un (by omega)]; exact g_us) | (rw [g_un (by omega), g_un (by omega), g_un (by omega)]; assumption) | ((repeat (rw [g_un (by omega)])); first | exact g_us | assumption)) ?_
  refine r_aload0 dX6_compareTo_2_4 ?_
  refine f_X6_19_X6 dX6_compareTo_2_5 (by first | assumption | exact g_us | (rw [g_un (by omega)]; assumption) | (rw [g_un (by omega)]; exact g_us) | (rw [g_un (by omega), g_un (by omega)]; assumption) | (rw [g_un (by omega), g_un (by omega)]; exact g_us) | (rw [g_un (by omega), g_un (by omega), g_un (by omega)]; assumption) | ((repeat (rw [g_un (by omega)])); first | exact g_us | assumption)) ?_
  refine r_imul dX6_compareTo_2_8 (pk_mul _ _) ?_
  refine r_aload0 dX6_compareTo_2_9 ?_
  refine f_X6_13_X6 dX6_compareTo_2_10 (by first | assumption | exact g_us | (rw [g_un (by omega)]; assumption) | (rw [g_un (by omega)]; exact g_us) | (rw [g_un (by omega), g_un (by omega)]; assumption) | (rw [g_un (by omega), g_un (by omega)]; exact g_us) | (rw [g_un (by omega), g_un (by omega), g_un (by omega)]; assumption) | ((repeat (rw [g_un (by omega)])); first | exact g_us | assumption)) ?_
  refine r_aload1 dX6_compareTo_2_13 ?_
  refine f_X6_19_X6 dX6_compareTo_2_14 (by first | assumption | exact g_us | (rw [g_un (by omega)]; assumption) | (rw [g_un (by omega)]; exact g_us) | (rw [g_un (by omega), g_un (by omega)]; assumption) | (rw [g_un (by omega), g_un (by omega)]; exact g_us) | (rw [g_un (by omega), g_un (by omega), g_un (by omega)]; assumption) | ((repeat (rw [g_un (by omega)])); first | exact g_us | assumption)) ?_
  refine r_imul dX6_compareTo_2_17 (pk_mul _ _) ?_
  refine r_callS (M' := mJ14_compare) _ dX6_compareTo_2_18 q1014 q993 rfl (lw_all_tbl q994) q144 (by exact pl_J14_compare)  (k_compare) (by omega) (Nat.le_of_ble_eq_true rfl) (by omega) (by omega) rfl (Nat.le_of_ble_eq_true rfl) rfl (kI fun r18 h18 n18 e18 => ?_) kN
  obtain ⟨q9, q8, q7⟩ := e18; have q9 := q9.symm; have q8 := q8.symm; have q7 := q7.symm; subst q9; subst q8; subst q7
  exact r_ireturn dX6_compareTo_2_21 rfl rfl (⟨rfl, rfl, rfl⟩)
theorem k_nearest1 {x y : Nat} {p : Prop} [Decidable p] (hx : x < 1000000000) (hy : 1 ≤ y) (hy2 : y ≤ 144) : g_Met K mX1_nearest 0 0 0 [.int (nI x), .int (nI y), .int (nB p)] h n (gI fun r h' n' => r = nI (x / y + if y < 2 * (x % y) ∨ 2 * (x % y) = y ∧ p then 1 else 0) ∧ h' = h ∧ n' = n) gN := by
  have hm : x % y < y := Nat.mod_lt _ (by omega)
  have hd : x / y ≤ x := Nat.div_le_self _ _
  refine g_Met.of (M := mX1_nearest) (L := [some (.int (nI x)), some (.int (nI y)), some (.int (nB p)), none, none]) (by decide +kernel) (Nat.le_of_ble_eq_true rfl) rfl ?_
  refine r_iload0 dX1_nearest_0 ?_
  refine r_iload1 dX1_nearest_1 ?_
  refine r_irem dX1_nearest_2 (nI_ne0 (by omega) (by omega)) (by first | exact pk_rem (by omega) (by omega) (by omega) | rfl) ?_
  refine r_istore3 dX1_nearest_3 ?_
  refine r_iconst (v := nI 2) dX1_nearest_4 (by decide) ?_
  refine r_iload3 dX1_nearest_5 ?_
  refine r_imul dX1_nearest_6 (pk_mul _ _) ?_
  refine r_iload1 dX1_nearest_7 ?_
  refine r_icmp_gtN (tgt := 22) dX1_nearest_8 (by decide) (by omega) (by omega) (fun c8 => ?_) (fun c8 => ?_)
  · refine r_iconst (v := nI 1) dX1_nearest_22 (by decide) ?_
    refine r_goto (tgt := 27) dX1_nearest_23 (by decide) ?_
    refine r_istore4 dX1_nearest_27 ?_
    refine r_iload0 dX1_nearest_29 ?_
    refine r_iload1 dX1_nearest_30 ?_
    refine r_idiv dX1_nearest_31 (nI_ne0 (by omega) (by omega)) (by first | exact pk_div (by omega) (by omega) (by omega) | rfl) ?_
    refine r_iload4 dX1_nearest_32 ?_
    refine r_if_eqN (tgt := 41) dX1_nearest_34 (by decide) (by omega) (fun c34 => absurd c34 (by omega)) (fun c34 => ?_)
    refine r_iconst (v := nI 1) dX1_nearest_37 (by decide) ?_
    refine r_goto (tgt := 42) dX1_nearest_38 (by decide) ?_
    refine r_iadd dX1_nearest_42 (by first | exact nI_add _ _ | rfl) ?_
    exact r_ireturn dX1_nearest_43 rfl rfl (⟨by first | (rw [if_pos (by omega)]) | (rw [if_neg (by omega)]), rfl, rfl⟩)
  · refine r_iconst (v := nI 2) dX1_nearest_11 (by decide) ?_
    refine r_iload3 dX1_nearest_12 ?_
    refine r_imul dX1_nearest_13 (pk_mul _ _) ?_
    refine r_iload1 dX1_nearest_14 ?_
    refine r_icmp_neN (tgt := 26) dX1_nearest_15 (by decide) (by omega) (by omega) (fun c15 => ?_) (fun c15 => ?_)
    · refine r_iconst (v := nI 0) dX1_nearest_26 (by decide) ?_
      refine r_istore4 dX1_nearest_27 ?_
      refine r_iload0 dX1_nearest_29 ?_
      refine r_iload1 dX1_nearest_30 ?_
      refine r_idiv dX1_nearest_31 (nI_ne0 (by omega) (by omega)) (by first | exact pk_div (by omega) (by omega) (by omega) | rfl) ?_
      refine r_iload4 dX1_nearest_32 ?_
      refine r_if_eqN (tgt := 41) dX1_nearest_34 (by decide) (by omega) (fun c34 => ?_) (fun c34 => absurd c34 (by omega))
      refine r_iconst (v := nI 0) dX1_nearest_41 (by decide) ?_
      refine r_iadd dX1_nearest_42 (by first | exact nI_add _ _ | rfl) ?_
      exact r_ireturn dX1_nearest_43 rfl rfl (⟨by first | (rw [if_pos (by omega)]) | (rw [if_neg (by omega)]), rfl, rfl⟩)
    · refine r_iload2 dX1_nearest_18 ?_
      refine r_if_eqB (tgt := 26) dX1_nearest_19 (by decide) (fun c19 => ?_) (fun c19 => ?_)
      · refine r_iconst (v := nI 0) dX1_nearest_26 (by decide) ?_
        refine r_istore4 dX1_nearest_27 ?_
        refine r_iload0 dX1_nearest_29 ?_
        refine r_iload1 dX1_nearest_30 ?_
        refine r_idiv dX1_nearest_31 (nI_ne0 (by omega) (by omega)) (by first | exact pk_div (by omega) (by omega) (by omega) | rfl) ?_
        refine r_iload4 dX1_nearest_32 ?_
        refine r_if_eqN (tgt := 41) dX1_nearest_34 (by decide) (by omega) (fun c34 => ?_) (fun c34 => absurd c34 (by omega))
        refine r_iconst (v := nI 0) dX1_nearest_41 (by decide) ?_
        refine r_iadd dX1_nearest_42 (by first | exact nI_add _ _ | rfl) ?_
        exact r_ireturn dX1_nearest_43 rfl rfl (⟨by rw [if_neg (fun q => q.elim (fun q => absurd q (by omega)) (fun q => c19 q.2))], rfl, rfl⟩)
      · refine r_iconst (v := nI 1) dX1_nearest_22 (by decide) ?_
        refine r_goto (tgt := 27) dX1_nearest_23 (by decide) ?_
        refine r_istore4 dX1_nearest_27 ?_
        refine r_iload0 dX1_nearest_29 ?_
        refine r_iload1 dX1_nearest_30 ?_
        refine r_idiv dX1_nearest_31 (nI_ne0 (by omega) (by omega)) (by first | exact pk_div (by omega) (by omega) (by omega) | rfl) ?_
        refine r_iload4 dX1_nearest_32 ?_
        refine r_if_eqN (tgt := 41) dX1_nearest_34 (by decide) (by omega) (fun c34 => absurd c34 (by omega)) (fun c34 => ?_)
        refine r_iconst (v := nI 1) dX1_nearest_37 (by decide) ?_
        refine r_goto (tgt := 42) dX1_nearest_38 (by decide) ?_
        refine r_iadd dX1_nearest_42 (by first | exact nI_add _ _ | rfl) ?_
        exact r_ireturn dX1_nearest_43 rfl rfl (⟨by rw [if_pos (Or.inr ⟨by omega, c19⟩)], rfl, rfl⟩)
end
