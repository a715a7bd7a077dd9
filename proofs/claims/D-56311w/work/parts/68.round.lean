/-! rounding, crumbs of a fraction -/
set_option maxRecDepth 100000
theorem nar1 {x : Int32} : ∀ q ∈ [FieldType.int].zip [Value.int x], narrow q.1 q.2 = q.2 ∧ fits q.1 q.2 = true := by
  intro q hq
  simp at hq
  subst hq
  exact ⟨rfl, rfl⟩
theorem nar2 {x y : Int32} : ∀ q ∈ [FieldType.int, .int].zip [Value.int x, .int y], narrow q.1 q.2 = q.2 ∧ fits q.1 q.2 = true := by
  intro q hq
  simp at hq
  rcases hq with rfl | rfl
  · exact ⟨rfl, rfl⟩
  · exact ⟨rfl, rfl⟩
/-- a call of x on the lambda's object b does so much -/
def g_LC (K : g_K) (x : MethodName) (b : Nat) (As : List Value) (d' bc' bs' : Nat) (h : g_P) (n : Nat) (Q : Int32 → g_P → Nat → Prop) (X' : g_X) : Prop :=
  ∀ {M : g_M} {d bc bs : Nat} {P : g_Q} {X : g_X} {pc : Nat} {L : List (Option Value)} {st st0 : List Value} {count index : Nat}, decode M.2.1 pc = .ok (.invokeinterface index count, 5) → Cond.methodLink M.1.cls index x ∈ lw_all → d' + 2 ≤ d → bc' ≤ bc → bs' ≤ bs → L.length = M.2.2.1 → (st.map fun v => v.category).sum ≤ 8 → st0 = As.reverse ++ .ref b :: st →
    (∀ (v : Option Value) (h' : g_P) (n' : Nat), gI Q v h' n' → g_G K M d (bc - bc') (bs - bs') P X (pc + 5) L (v.toList ++ st) h' n') → (∀ (q : Nat) (h' : g_P) (n' : Nat), X' q h' n' → g_GX K M d (bc - bc') (bs - bs') P X pc L h' n' q) → g_G K M d bc bs P X pc L st0 h n
def rsite (k : Nat) : Nat := if k = 100 then 1 else if k = 117 then 2 else if k = 104 then 3 else 4
abbrev xRnd : MethodName := ⟨"DoughLedger$Rounding", "round", "(II)I"⟩
theorem rnd_h {x y : Nat} : rnd 104 x y = if y ≤ 2 * (x % y) then x / y + 1 else x / y := by
  unfold rnd
  rw [if_neg (by decide), if_neg (by decide), if_pos rfl]
theorem rnd_e {x y : Nat} : rnd 101 x y = if y < 2 * (x % y) ∨ 2 * (x % y) = y ∧ x / y % 2 = 1 then x / y + 1 else x / y := by
  unfold rnd
  rw [if_neg (by decide), if_neg (by decide), if_neg (by decide)]
section
variable {K : g_K} {W : c_W} {A : Nat → Nat} {a n : Nat} {h : g_P}
theorem k_rnd0 {x y : Nat} (hx : x < 1000000000) (hy : 1 ≤ y) (hy2 : y ≤ 144) : g_Met K mX1_lambda_rounding_0 1 0 0 [.int (nI x), .int (nI y)] h n (gI fun r h' n' => r = nI (rnd 100 x y) ∧ h' = h ∧ n' = n) gN := by
  refine g_Met.of (M := mX1_lambda_rounding_0) (L := [some (.int (nI x)), some (.int (nI y))]) (by decide +kernel) (Nat.le_of_ble_eq_true rfl) rfl ?_
  refine r_iload0 dX1_lambda_rounding_0_0 ?_
  refine r_iload1 dX1_lambda_rounding_0_1 ?_
  refine r_idiv dX1_lambda_rounding_0_2 (nI_ne0 (by omega) (by omega)) (by first | exact pk_div (by omega) (by omega) (by omega) | rfl) ?_
  exact r_ireturn dX1_lambda_rounding_0_3 rfl rfl (⟨by unfold rnd; rw [if_pos rfl], rfl, rfl⟩)
theorem k_rnd1 {x y : Nat} (hx : x < 1000000000) (hy : 1 ≤ y) (hy2 : y ≤ 144) : g_Met K mX1_lambda_rounding_1 1 0 0 [.int (nI x), .int (nI y)] h n (gI fun r h' n' => r = nI (rnd 117 x y) ∧ h' = h ∧ n' = n) gN := by
  have e : (x + y - 1) / y = rnd 117 x y := by
    unfold rnd
    rw [if_neg (by decide), if_pos rfl]
    have h1 := Nat.div_add_mod x y
    have h2 := Nat.mod_lt x (y := y) (by omega)
    by_cases c : 0 < x % y
    · rw [if_pos c]
      rw [Nat.div_eq_of_lt_le (m := x + y - 1) (n := y) (k := x / y + 1)]
      · rw [Nat.mul_comm, Nat.mul_add]; omega
      · rw [Nat.mul_comm, Nat.mul_add, Nat.mul_add]; omega
    · rw [if_neg c]
      rw [Nat.div_eq_of_lt_le (m := x + y - 1) (n := y) (k := x / y)]
      · rw [Nat.mul_comm]; omega
      · rw [Nat.mul_comm, Nat.mul_add]; omega
  refine g_Met.of (M := mX1_lambda_rounding_1) (L := [some (.int (nI x)), some (.int (nI y))]) (by decide +kernel) (Nat.le_of_ble_eq_true rfl) rfl ?_
  refine r_iload0 dX1_lambda_rounding_1_0 ?_
  refine r_iload1 dX1_lambda_rounding_1_1 ?_
  refine r_iadd dX1_lambda_rounding_1_2 (by first | exact nI_add _ _ | rfl) ?_
  refine r_iconst (v := nI 1) dX1_lambda_rounding_1_3 (by decide) ?_
  refine r_isub dX1_lambda_rounding_1_4 (show _ = nI (x + y - 1) by rw [pk_sub (by omega)]) ?_
  refine r_iload1 dX1_lambda_rounding_1_5 ?_
  refine r_idiv dX1_lambda_rounding_1_6 (nI_ne0 (by omega) (by omega)) (by first | exact pk_div (by omega) (by omega) (by omega) | rfl) ?_
  exact r_ireturn dX1_lambda_rounding_1_7 rfl rfl (⟨by rw [e], rfl, rfl⟩)
theorem k_rnd2 {x y : Nat} (hx : x < 1000000000) (hy : 1 ≤ y) (hy2 : y ≤ 144) : g_Met K mX1_lambda_rounding_2 1 0 0 [.int (nI x), .int (nI y)] h n (gI fun r h' n' => r = nI (rnd 104 x y) ∧ h' = h ∧ n' = n) gN := by
  refine g_Met.of (M := mX1_lambda_rounding_2) (L := [some (.int (nI x)), some (.int (nI y))]) (by decide +kernel) (Nat.le_of_ble_eq_true rfl) rfl ?_
  refine r_iload0 dX1_lambda_rounding_2_0 ?_
  refine r_iload1 dX1_lambda_rounding_2_1 ?_
  refine r_iconst (v := nI 1) dX1_lambda_rounding_2_2 (by decide) ?_
  refine g_st (st' := [.int (nB True), .int (nI y), .int (nI x)]) (by rw [← nB_t (p := True) trivial]) ?_
  refine r_callS (M' := mX1_nearest) _ dX1_lambda_rounding_2_3 q1826 q1827 rfl (lw_all_tbl q1828) q125 (by exact pl_X1_nearest)  ((k_nearest1 (p := True) hx hy hy2)) (by omega) (Nat.le_of_ble_eq_true rfl) (by omega) (by omega) rfl (Nat.le_of_ble_eq_true rfl) rfl (kI fun r3 h3 n3 e3 => ?_) kN
  obtain ⟨q9, q8, q7⟩ := e3; have q9 := q9.symm; have q8 := q8.symm; have q7 := q7.symm; subst q9; subst q8; subst q7
  exact r_ireturn dX1_lambda_rounding_2_6 rfl rfl (⟨by
    rw [rnd_h]
    by_cases c : y ≤ 2 * (x % y)
    · rw [if_pos c, if_pos (show y < 2 * (x % y) ∨ 2 * (x % y) = y ∧ True by by_cases c2 : y < 2 * (x % y); exact Or.inl c2; exact Or.inr ⟨by omega, trivial⟩)]
    · rw [if_neg c, if_neg (by omega)]; rfl, rfl, rfl⟩)
theorem k_rnd3 {x y : Nat} (hx : x < 1000000000) (hy : 1 ≤ y) (hy2 : y ≤ 144) : g_Met K mX1_lambda_rounding_3 1 0 0 [.int (nI x), .int (nI y)] h n (gI fun r h' n' => r = nI (rnd 101 x y) ∧ h' = h ∧ n' = n) gN := by
  have hd : x / y ≤ x := Nat.div_le_self _ _
  have e : ∀ p : Prop, ∀ (_ : Decidable p), (p ↔ x / y % 2 = 1) → (x / y + if y < 2 * (x % y) ∨ 2 * (x % y) = y ∧ p then 1 else 0) = rnd 101 x y := by
    intro p dp ip
    rw [rnd_e]
    by_cases c : y < 2 * (x % y) ∨ 2 * (x % y) = y ∧ x / y % 2 = 1
    · rw [if_pos c, if_pos (c.imp id (fun q => ⟨q.1, ip.mpr q.2⟩))]
    · rw [if_neg c, if_neg (fun q => c (q.imp id (fun q => ⟨q.1, ip.mp q.2⟩)))]
      rfl
  refine g_Met.of (M := mX1_lambda_rounding_3) (L := [some (.int (nI x)), some (.int (nI y))]) (by decide +kernel) (Nat.le_of_ble_eq_true rfl) rfl ?_
  refine r_iload0 dX1_lambda_rounding_3_0 ?_
  refine r_iload1 dX1_lambda_rounding_3_1 ?_
  refine r_iload0 dX1_lambda_rounding_3_2 ?_
  refine r_iload1 dX1_lambda_rounding_3_3 ?_
  refine r_idiv dX1_lambda_rounding_3_4 (nI_ne0 (by omega) (by omega)) (by first | exact pk_div (by omega) (by omega) (by omega) | rfl) ?_
  refine r_iconst (v := nI 2) dX1_lambda_rounding_3_5 (by decide) ?_
  refine r_irem dX1_lambda_rounding_3_6 (nI_ne0 (by omega) (by omega)) (by first | exact pk_rem (by omega) (by omega) (by omega) | rfl) ?_
  refine r_if_eqN (tgt := 14) dX1_lambda_rounding_3_7 (by decide) (by omega) (fun c7 => ?_) (fun c7 => ?_)
  · refine r_iconst (v := nI 0) dX1_lambda_rounding_3_14 (by decide) ?_
    refine g_st (st' := [.int (nB False), .int (nI y), .int (nI x)]) (by rw [← nB_f (p := False) id]) ?_
    refine r_callS (M' := mX1_nearest) _ dX1_lambda_rounding_3_15 q1826 q1827 rfl (lw_all_tbl q1828) q125 (by exact pl_X1_nearest)  ((k_nearest1 (p := False) hx hy hy2)) (by omega) (Nat.le_of_ble_eq_true rfl) (by omega) (by omega) rfl (Nat.le_of_ble_eq_true rfl) rfl (kI fun r15 h15 n15 e15 => ?_) kN
    obtain ⟨q9, q8, q7⟩ := e15; have q9 := q9.symm; have q8 := q8.symm; have q7 := q7.symm; subst q9; subst q8; subst q7
    exact r_ireturn dX1_lambda_rounding_3_18 rfl rfl (⟨by rw [e False inferInstance ⟨fun z => z.elim, fun z => absurd c7 (by omega)⟩], rfl, rfl⟩)
  · refine r_iconst (v := nI 1) dX1_lambda_rounding_3_10 (by decide) ?_
    refine r_goto (tgt := 15) dX1_lambda_rounding_3_11 (by decide) ?_
    refine g_st (st' := [.int (nB True), .int (nI y), .int (nI x)]) (by rw [← nB_t (p := True) trivial]) ?_
    refine r_callS (M' := mX1_nearest) _ dX1_lambda_rounding_3_15 q1826 q1827 rfl (lw_all_tbl q1828) q125 (by exact pl_X1_nearest)  ((k_nearest1 (p := True) hx hy hy2)) (by omega) (Nat.le_of_ble_eq_true rfl) (by omega) (by omega) rfl (Nat.le_of_ble_eq_true rfl) rfl (kI fun r15 h15 n15 e15 => ?_) kN
    obtain ⟨q9, q8, q7⟩ := e15; have q9 := q9.symm; have q8 := q8.symm; have q7 := q7.symm; subst q9; subst q8; subst q7
    exact r_ireturn dX1_lambda_rounding_3_18 rfl rfl (⟨by rw [e True inferInstance ⟨fun _ => by omega, fun _ => trivial⟩], rfl, rfl⟩)
theorem k_X1_rounding (wl : lOK K A) {k : Nat} (hr : rul k) : g_Met K mX1_rounding 0 0 0 [.int (nI k)] h n (gA fun r h' n' => r = .ref (A (rsite k)) ∧ h' = h ∧ n' = n) gN := by
  rcases hr with rfl | rfl | rfl | rfl
  · skip
    refine g_Met.of (M := mX1_rounding) (L := [some (.int (nI 100))]) (by decide +kernel) (Nat.le_of_ble_eq_true rfl) rfl ?_
    refine r_iload0 dX1_rounding_0 ?_
    rcases (rfl : (100 : Nat) = 100) with e1
    · skip
      refine r_lookup (off := 35) (tgt := 36) dX1_rounding_1 (by decide) (by decide +kernel) (by decide) ?_
      refine r_lamC (z := (l_x1, 36, 7, l_s1, k_L K 1, some (A 1))) (l_c1 wl).1 rfl rfl rfl dX1_rounding_36 rfl (Nat.le_of_ble_eq_true rfl) ?_
      exact r_areturn dX1_rounding_41 rfl (Or.inl ⟨_, rfl⟩) (Or.inr ⟨_, rfl⟩) (⟨rfl, rfl, rfl⟩)
  · skip
    refine g_Met.of (M := mX1_rounding) (L := [some (.int (nI 117))]) (by decide +kernel) (Nat.le_of_ble_eq_true rfl) rfl ?_
    refine r_iload0 dX1_rounding_0 ?_
    rcases (rfl : (117 : Nat) = 117) with e1
    · skip
      refine r_lookup (off := 41) (tgt := 42) dX1_rounding_1 (by decide) (by decide +kernel) (by decide) ?_
      refine r_lamC (z := (l_x2, 42, 11, l_s2, k_L K 2, some (A 2))) (l_c2 wl).1 rfl rfl rfl dX1_rounding_42 rfl (Nat.le_of_ble_eq_true rfl) ?_
      exact r_areturn dX1_rounding_47 rfl (Or.inl ⟨_, rfl⟩) (Or.inr ⟨_, rfl⟩) (⟨rfl, rfl, rfl⟩)
  · skip
    refine g_Met.of (M := mX1_rounding) (L := [some (.int (nI 104))]) (by decide +kernel) (Nat.le_of_ble_eq_true rfl) rfl ?_
    refine r_iload0 dX1_rounding_0 ?_
    rcases (rfl : (104 : Nat) = 104) with e1
    · skip
      refine r_lookup (off := 47) (tgt := 48) dX1_rounding_1 (by decide) (by decide +kernel) (by decide) ?_
      refine r_lamC (z := (l_x3, 48, 12, l_s3, k_L K 3, some (A 3))) (l_c3 wl).1 rfl rfl rfl dX1_rounding_48 rfl (Nat.le_of_ble_eq_true rfl) ?_
      exact r_areturn dX1_rounding_53 rfl (Or.inl ⟨_, rfl⟩) (Or.inr ⟨_, rfl⟩) (⟨rfl, rfl, rfl⟩)
  · skip
    refine g_Met.of (M := mX1_rounding) (L := [some (.int (nI 101))]) (by decide +kernel) (Nat.le_of_ble_eq_true rfl) rfl ?_
    refine r_iload0 dX1_rounding_0 ?_
    rcases (rfl : (101 : Nat) = 101) with e1
    · skip
      refine r_lookup (off := 53) (tgt := 54) dX1_rounding_1 (by decide) (by decide +kernel) (by decide) ?_
      refine r_lamC (z := (l_x4, 54, 13, l_s4, k_L K 4, some (A 4))) (l_c4 wl).1 rfl rfl rfl dX1_rounding_54 rfl (Nat.le_of_ble_eq_true rfl) ?_
      exact r_areturn dX1_rounding_59 rfl (Or.inl ⟨_, rfl⟩) (Or.inr ⟨_, rfl⟩) (⟨rfl, rfl, rfl⟩)
end
