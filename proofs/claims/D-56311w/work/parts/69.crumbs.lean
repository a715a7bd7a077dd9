/-! a dough's crumbs, by rounding and by digits; its parts -/
set_option maxRecDepth 100000
theorem rnd_eq {k N1 N2 y : Nat} (h1 : N1 % y = N2 % y) (h2 : N1 / y % 2 = N2 / y % 2) : rnd k N1 y + N2 / y = rnd k N2 y + N1 / y := by
  unfold rnd
  rw [h1, h2]
  by_cases c1 : k = 100
  · rw [if_pos c1, if_pos c1]; omega
  · rw [if_neg c1, if_neg c1]
    by_cases c2 : k = 117
    · rw [if_pos c2, if_pos c2]; split <;> omega
    · rw [if_neg c2, if_neg c2]
      by_cases c3 : k = 104
      · rw [if_pos c3, if_pos c3]; split <;> omega
      · rw [if_neg c3, if_neg c3]; split <;> omega
/-- the last digit and what remains decide as the whole fraction would -/
theorem rnd_dig {k N y : Nat} (hy : 1 ≤ y) : N / y - N / y % 10 + rnd k (N / y % 10 * y + N % y) y = rnd k N y := by
  have hm := Nat.mod_lt N (y := y) (by omega)
  have h1 : (N / y % 10 * y + N % y) / y = N / y % 10 := by
    rw [Nat.add_comm, Nat.add_mul_div_right _ _ (by omega), Nat.div_eq_of_lt hm, Nat.zero_add]
  have h2 : (N / y % 10 * y + N % y) % y = N % y := by
    rw [Nat.add_comm, Nat.add_mul_mod_self_right, Nat.mod_mod]
  have h3 := rnd_eq (k := k) (N1 := N / y % 10 * y + N % y) (N2 := N) (y := y) h2 (by rw [h1]; omega)
  rw [h1] at h3
  have : N / y % 10 ≤ N / y := Nat.mod_le _ _
  omega
section
variable {K : g_K} {W : c_W} {A : Nat → Nat} {lo hi b t l e a n u : Nat} {ρ : Nat → Nat} {α : Nat → Int64} {h : g_P}
theorem pl_xRnd : g_pl xRnd 2 := ⟨by decide, by decide, by decide +kernel⟩
theorem k_lround (wl : lOK K A) (f3 : ∀ a : Nat, a < k_b K → h a = k_p K a) {k : Nat} (hr : rul k) {x y : Nat} (hx : x < 1000000000) (hy : 1 ≤ y) (hy2 : y ≤ 144) : g_LC K xRnd (A (rsite k)) [.int (nI x), .int (nI y)] 1 0 0 h n (fun r h' n' => r = nI (rnd k x y) ∧ h' = h ∧ n' = n) gN := by
  intro M d bc bs P X pc L st st0 count index hd hlink hd1 hc hsl hL hw hst kn kx
  rcases hr with rfl | rfl | rfl | rfl
  · exact r_lamI (z := (l_x1, 36, 7, l_s1, k_L K 1, some (A 1))) (kk := 1) (M' := mX1_lambda_rounding_0) (x := xRnd) (vals := []) [.int (nI x), .int (nI y)] l_F1 fw_run0 l_q1 l_r1 (l_c1 wl).1 rfl pn_DoughLedger (by decide) hd hlink q1841 q1840 rfl ⟨rfl, rfl, l_S1⟩ q1820 ⟨rfl, rfl, l_D1⟩ (lw_all_tbl q1821) q125 pl_xRnd pl_X1_lambda_rounding_0 ((f3 _ (l_c1 wl).2.2).trans (l_c1 wl).2.1) (k_rnd0 hx hy hy2) hd1 (Nat.le_of_ble_eq_true rfl) hc hsl hL hw hst kn kx
  · exact r_lamI (z := (l_x2, 42, 11, l_s2, k_L K 2, some (A 2))) (kk := 2) (M' := mX1_lambda_rounding_1) (x := xRnd) (vals := []) [.int (nI x), .int (nI y)] l_F2 fw_run0 l_q2 l_r2 (l_c2 wl).1 rfl pn_DoughLedger (by decide) hd hlink q1841 q1840 rfl ⟨rfl, rfl, l_S2⟩ q1822 ⟨rfl, rfl, l_D2⟩ (lw_all_tbl q1823) q125 pl_xRnd pl_X1_lambda_rounding_1 ((f3 _ (l_c2 wl).2.2).trans (l_c2 wl).2.1) (k_rnd1 hx hy hy2) hd1 (Nat.le_of_ble_eq_true rfl) hc hsl hL hw hst kn kx
  · exact r_lamI (z := (l_x3, 48, 12, l_s3, k_L K 3, some (A 3))) (kk := 3) (M' := mX1_lambda_rounding_2) (x := xRnd) (vals := []) [.int (nI x), .int (nI y)] l_F3 fw_run0 l_q3 l_r3 (l_c3 wl).1 rfl pn_DoughLedger (by decide) hd hlink q1841 q1840 rfl ⟨rfl, rfl, l_S3⟩ q1824 ⟨rfl, rfl, l_D3⟩ (lw_all_tbl q1825) q125 pl_xRnd pl_X1_lambda_rounding_2 ((f3 _ (l_c3 wl).2.2).trans (l_c3 wl).2.1) (k_rnd2 hx hy hy2) hd1 (Nat.le_of_ble_eq_true rfl) hc hsl hL hw hst kn kx
  · exact r_lamI (z := (l_x4, 54, 13, l_s4, k_L K 4, some (A 4))) (kk := 4) (M' := mX1_lambda_rounding_3) (x := xRnd) (vals := []) [.int (nI x), .int (nI y)] l_F4 fw_run0 l_q4 l_r4 (l_c4 wl).1 rfl pn_DoughLedger (by decide) hd hlink q1841 q1840 rfl ⟨rfl, rfl, l_S4⟩ q1829 ⟨rfl, rfl, l_D4⟩ (lw_all_tbl q1830) q125 pl_xRnd pl_X1_lambda_rounding_3 ((f3 _ (l_c4 wl).2.2).trans (l_c4 wl).2.1) (k_rnd3 hx hy hy2) hd1 (Nat.le_of_ble_eq_true rfl) hc hsl hL hw hst kn kx
theorem p10_b {s : Nat} (hs : s ≤ 4) : 10 ^ s ≤ 10000 := Nat.pow_le_pow_right (by omega) hs
theorem p10_p {s : Nat} : 1 ≤ 10 ^ s := Nat.pow_pos (by omega)
theorem k_crumbs6 (wl : lOK K A) {x y s k : Nat} (hr : rul k) (hs : s ≤ 4) (hx : x ≤ 9999) (hy : 1 ≤ y) (hy2 : y ≤ 12) (ho : h a = some (g_ob 4 [.int (nI x), .int (nI y)])) : g_Met K mX6_crumbs 3 0 0 [.ref a, .int (nI s), .ref (A (rsite k))] h n (gI fun r h' n' => r = nI (rnd k (x * 10 ^ s) y) ∧ h' = h ∧ n' = n) gN := by
  refine g_Met.facts fun f1 f2 f3 => ?_
  have m1 : x * 10 ^ s ≤ 9999 * 10000 := Nat.mul_le_mul hx (p10_b hs)
  refine g_Met.of (M := mX6_crumbs) (L := [some (.ref a), some (.int (nI s)), some (.ref (A (rsite k)))]) (by decide +kernel) (Nat.le_of_ble_eq_true rfl) rfl ?_
  refine r_aload2 dX6_crumbs_0 ?_
  refine r_aload0 dX6_crumbs_1 ?_
  refine f_X6_13_X6 dX6_crumbs_2 (by first | assumption | exact g_us | (rw [g_un (by omega)]; assumption) | (rw [g_un (by omega)]; exact g_us) | (rw [g_un (by omega), g_un (by omega)]; assumption) | (rw [g_un (by omega), g_un (by omega)]; exact g_us) | (rw [g_un (by omega), g_un (by omega), g_un (by omega)]; assumption) | ((repeat (rw [g_un (by omega)])); first | exact g_us | assumption)) ?_
  refine r_iload1 dX6_crumbs_5 ?_
  refine r_callSN (M' := mX1_power) _ dX6_crumbs_6 q1835 q1836 rfl (lw_all_tbl q1837) q125 (by exact pl_X1_power)  ((k_power1 hs)) (by omega) (Nat.le_of_ble_eq_true rfl) (by omega) (by omega) rfl (Nat.le_of_ble_eq_true rfl) rfl (kI fun r6 h6 n6 e6 => ?_) kN
  obtain ⟨q9, q8, q7⟩ := e6; have q9 := q9.symm; have q8 := q8.symm; have q7 := q7.symm; subst q9; subst q8; subst q7
  refine r_imul dX6_crumbs_9 (pk_mul _ _) ?_
  refine r_aload0 dX6_crumbs_10 ?_
  refine f_X6_19_X6 dX6_crumbs_11 (by first | assumption | exact g_us | (rw [g_un (by omega)]; assumption) | (rw [g_un (by omega)]; exact g_us) | (rw [g_un (by omega), g_un (by omega)]; assumption) | (rw [g_un (by omega), g_un (by omega)]; exact g_us) | (rw [g_un (by omega), g_un (by omega), g_un (by omega)]; assumption) | ((repeat (rw [g_un (by omega)])); first | exact g_us | assumption)) ?_
  refine (k_lround wl f3 hr (by omega) hy (by omega)) dX6_crumbs_14 q1839 (by omega) (by omega) (by omega) rfl (Nat.le_of_ble_eq_true rfl) rfl (kI fun r14 h14 n14 e14 => ?_) kN
  obtain ⟨q9, q8, q7⟩ := e14; have q9 := q9.symm; have q8 := q8.symm; have q7 := q7.symm; subst q9; subst q8; subst q7
  exact r_ireturn dX6_crumbs_19 rfl rfl (⟨rfl, rfl, rfl⟩)
theorem k_digits6 (wl : lOK K A) {x y s k : Nat} (hr : rul k) (hs : s ≤ 4) (hx : x ≤ 9999) (hy : 1 ≤ y) (hy2 : y ≤ 12) (ho : h a = some (g_ob 4 [.int (nI x), .int (nI y)])) : g_Met K mX6_crumbsByDigits 3 0 0 [.ref a, .int (nI s), .ref (A (rsite k))] h n (gI fun r h' n' => r = nI (rnd k (x * 10 ^ s) y) ∧ h' = h ∧ n' = n) gN := by
  refine g_Met.facts fun f1 f2 f3 => ?_
  have loop : ∀ (g j : Nat) (o5 : Option Value), j + g = s → g_G K mX6_crumbsByDigits 3 0 0 (gI fun r h' n' => r = nI (rnd k (x * 10 ^ s) y) ∧ h' = h ∧ n' = n) gN 24 [some (.ref a), some (.int (nI s)), some (.ref (A (rsite k))), some (.int (nI (x * 10 ^ j / y))), some (.int (nI (x * 10 ^ j % y))), some (.int (nI j))] [] h n := by
    intro g
    induction g with
    | zero =>
      intro j o5 hj
      have : j = s := by omega
      subst this
      have m1 : x * 10 ^ j ≤ 9999 * 10000 := Nat.mul_le_mul hx (p10_b hs)
      have m2 : x * 10 ^ j % y < y := Nat.mod_lt _ (by omega)
      have m3 : x * 10 ^ j / y ≤ x * 10 ^ j := Nat.div_le_self _ _
      have m4 : x * 10 ^ j / y % 10 * y ≤ 9 * 12 := Nat.mul_le_mul (by omega) hy2
      have m5 : x * 10 ^ j / y % 10 ≤ x * 10 ^ j / y := Nat.mod_le _ _
      refine r_iload5 dX6_crumbsByDigits_24 ?_
      refine r_iload1 dX6_crumbsByDigits_26 ?_
      refine r_icmp_geN (tgt := 65) dX6_crumbsByDigits_27 (by decide) (by omega) (by omega) (fun c27 => ?_) (fun c27 => absurd c27 (by omega))
      refine r_iload3 dX6_crumbsByDigits_65 ?_
      refine r_bipush (v := nI 10) dX6_crumbsByDigits_66 (by decide) ?_
      refine r_irem dX6_crumbsByDigits_68 (nI_ne0 (by omega) (by omega)) (by first | exact pk_rem (by omega) (by omega) (by omega) | rfl) ?_
      refine r_istore5 dX6_crumbsByDigits_69 ?_
      refine r_iload3 dX6_crumbsByDigits_71 ?_
      refine r_iload5 dX6_crumbsByDigits_72 ?_
      refine r_isub dX6_crumbsByDigits_74 (pk_sub m5) ?_
      refine r_aload2 dX6_crumbsByDigits_75 ?_
      refine r_iload5 dX6_crumbsByDigits_76 ?_
      refine r_aload0 dX6_crumbsByDigits_78 ?_
      refine f_X6_19_X6 dX6_crumbsByDigits_79 (by first | assumption | exact g_us | (rw [g_un (by omega)]; assumption) | (rw [g_un (by omega)]; exact g_us) | (rw [g_un (by omega), g_un (by omega)]; assumption) | (rw [g_un (by omega), g_un (by omega)]; exact g_us) | (rw [g_un (by omega), g_un (by omega), g_un (by omega)]; assumption) | ((repeat (rw [g_un (by omega)])); first | exact g_us | assumption)) ?_
      refine r_imul dX6_crumbsByDigits_82 (pk_mul _ _) ?_
      refine r_iload4 dX6_crumbsByDigits_83 ?_
      refine r_iadd dX6_crumbsByDigits_85 (by first | exact nI_add _ _ | rfl) ?_
      refine r_aload0 dX6_crumbsByDigits_86 ?_
      refine f_X6_19_X6 dX6_crumbsByDigits_87 (by first | assumption | exact g_us | (rw [g_un (by omega)]; assumption) | (rw [g_un (by omega)]; exact g_us) | (rw [g_un (by omega), g_un (by omega)]; assumption) | (rw [g_un (by omega), g_un (by omega)]; exact g_us) | (rw [g_un (by omega), g_un (by omega), g_un (by omega)]; assumption) | ((repeat (rw [g_un (by omega)])); first | exact g_us | assumption)) ?_
      refine (k_lround wl f3 hr (by omega) hy (by omega)) dX6_crumbsByDigits_90 q1839 (by omega) (by omega) (by omega) rfl (Nat.le_of_ble_eq_true rfl) rfl (kI fun r90 h90 n90 e90 => ?_) kN
      obtain ⟨q9, q8, q7⟩ := e90; have q9 := q9.symm; have q8 := q8.symm; have q7 := q7.symm; subst q9; subst q8; subst q7
      refine r_iadd dX6_crumbsByDigits_95 (nI_add _ _) ?_
      exact r_ireturn dX6_crumbsByDigits_96 rfl rfl (⟨by rw [rnd_dig hy], rfl, rfl⟩)
    | succ g ih =>
      intro j o5 hj
      have m1 : x * 10 ^ j ≤ 9999 * 10000 := Nat.mul_le_mul hx (p10_b (by omega))
      have m2 : x * 10 ^ j % y < y := Nat.mod_lt _ (by omega)
      have m3 : x * 10 ^ j / y ≤ x * 10 ^ j := Nat.div_le_self _ _
      have e1 : x * 10 ^ (j + 1) = x * 10 ^ j % y * 10 + y * (10 * (x * 10 ^ j / y)) := by
        have := Nat.div_add_mod (x * 10 ^ j) y
        have e2 : y * (10 * (x * 10 ^ j / y)) = 10 * (y * (x * 10 ^ j / y)) := by rw [← Nat.mul_assoc, Nat.mul_comm y 10, Nat.mul_assoc]
        rw [Nat.pow_succ, ← Nat.mul_assoc, e2]
        omega
      have e3 : 10 * (x * 10 ^ j / y) + x * 10 ^ j % y * 10 / y = x * 10 ^ (j + 1) / y := by
        rw [e1, Nat.add_mul_div_left _ _ (by omega), Nat.add_comm]
      have e4 : x * 10 ^ j % y * 10 % y = x * 10 ^ (j + 1) % y := by
        rw [e1, Nat.add_mul_mod_self_left]
      refine r_iload5 dX6_crumbsByDigits_24 ?_
      refine r_iload1 dX6_crumbsByDigits_26 ?_
      refine r_icmp_geN (tgt := 65) dX6_crumbsByDigits_27 (by decide) (by omega) (by omega) (fun c27 => absurd c27 (by omega)) (fun c27 => ?_)
      refine r_iload4 dX6_crumbsByDigits_30 ?_
      refine r_bipush (v := nI 10) dX6_crumbsByDigits_32 (by decide) ?_
      refine r_imul dX6_crumbsByDigits_34 (pk_mul _ _) ?_
      refine r_istore4 dX6_crumbsByDigits_35 ?_
      refine r_bipush (v := nI 10) dX6_crumbsByDigits_37 (by decide) ?_
      refine r_iload3 dX6_crumbsByDigits_39 ?_
      refine r_imul dX6_crumbsByDigits_40 (pk_mul _ _) ?_
      refine r_iload4 dX6_crumbsByDigits_41 ?_
      refine r_aload0 dX6_crumbsByDigits_43 ?_
      refine f_X6_19_X6 dX6_crumbsByDigits_44 (by first | assumption | exact g_us | (rw [g_un (by omega)]; assumption) | (rw [g_un (by omega)]; exact g_us) | (rw [g_un (by omega), g_un (by omega)]; assumption) | (rw [g_un (by omega), g_un (by omega)]; exact g_us) | (rw [g_un (by omega), g_un (by omega), g_un (by omega)]; assumption) | ((repeat (rw [g_un (by omega)])); first | exact g_us | assumption)) ?_
      refine r_idiv dX6_crumbsByDigits_47 (nI_ne0 (by omega) (by omega)) (by first | exact pk_div (by omega) (by omega) (by omega) | rfl) ?_
      refine r_iadd dX6_crumbsByDigits_48 (show _ = nI (x * 10 ^ (j + 1) / y) by rw [nI_add, e3]) ?_
      refine r_istore3 dX6_crumbsByDigits_49 ?_
      refine r_iload4 dX6_crumbsByDigits_50 ?_
      refine r_aload0 dX6_crumbsByDigits_52 ?_
      refine f_X6_19_X6 dX6_crumbsByDigits_53 (by first | assumption | exact g_us | (rw [g_un (by omega)]; assumption) | (rw [g_un (by omega)]; exact g_us) | (rw [g_un (by omega), g_un (by omega)]; assumption) | (rw [g_un (by omega), g_un (by omega)]; exact g_us) | (rw [g_un (by omega), g_un (by omega), g_un (by omega)]; assumption) | ((repeat (rw [g_un (by omega)])); first | exact g_us | assumption)) ?_
      refine r_irem dX6_crumbsByDigits_56 (nI_ne0 (by omega) (by omega)) (show _ = nI (x * 10 ^ (j + 1) % y) by rw [pk_rem (by omega) (by omega) (by omega), e4]) ?_
      refine r_istore4 dX6_crumbsByDigits_57 ?_
      refine r_iinc5 dX6_crumbsByDigits_59 (ii1 _) ?_
      refine r_goto (tgt := 24) dX6_crumbsByDigits_62 (by decide) ?_
      exact ih (j + 1) none (by omega)
  refine g_Met.of (M := mX6_crumbsByDigits) (L := [some (.ref a), some (.int (nI s)), some (.ref (A (rsite k))), none, none, none]) (by decide +kernel) (Nat.le_of_ble_eq_true rfl) rfl ?_
  refine r_aload0 dX6_crumbsByDigits_0 ?_
  refine f_X6_13_X6 dX6_crumbsByDigits_1 (by first | assumption | exact g_us | (rw [g_un (by omega)]; assumption) | (rw [g_un (by omega)]; exact g_us) | (rw [g_un (by omega), g_un (by omega)]; assumption) | (rw [g_un (by omega), g_un (by omega)]; exact g_us) | (rw [g_un (by omega), g_un (by omega), g_un (by omega)]; assumption) | ((repeat (rw [g_un (by omega)])); first | exact g_us | assumption)) ?_
  refine r_aload0 dX6_crumbsByDigits_4 ?_
  refine f_X6_19_X6 dX6_crumbsByDigits_5 (by first | assumption | exact g_us | (rw [g_un (by omega)]; assumption) | (rw [g_un (by omega)]; exact g_us) | (rw [g_un (by omega), g_un (by omega)]; assumption) | (rw [g_un (by omega), g_un (by omega)]; exact g_us) | (rw [g_un (by omega), g_un (by omega), g_un (by omega)]; assumption) | ((repeat (rw [g_un (by omega)])); first | exact g_us | assumption)) ?_
  refine r_idiv dX6_crumbsByDigits_8 (nI_ne0 (by omega) (by omega)) (show _ = nI (x * 10 ^ 0 / y) by rw [pk_div (by omega) (by omega) (by omega), Nat.pow_zero, Nat.mul_one]) ?_
  refine r_istore3 dX6_crumbsByDigits_9 ?_
  refine r_aload0 dX6_crumbsByDigits_10 ?_
  refine f_X6_13_X6 dX6_crumbsByDigits_11 (by first | assumption | exact g_us | (rw [g_un (by omega)]; assumption) | (rw [g_un (by omega)]; exact g_us) | (rw [g_un (by omega), g_un (by omega)]; assumption) | (rw [g_un (by omega), g_un (by omega)]; exact g_us) | (rw [g_un (by omega), g_un (by omega), g_un (by omega)]; assumption) | ((repeat (rw [g_un (by omega)])); first | exact g_us | assumption)) ?_
  refine r_aload0 dX6_crumbsByDigits_14 ?_
  refine f_X6_19_X6 dX6_crumbsByDigits_15 (by first | assumption | exact g_us | (rw [g_un (by omega)]; assumption) | (rw [g_un (by omega)]; exact g_us) | (rw [g_un (by omega), g_un (by omega)]; assumption) | (rw [g_un (by omega), g_un (by omega)]; exact g_us) | (rw [g_un (by omega), g_un (by omega), g_un (by omega)]; assumption) | ((repeat (rw [g_un (by omega)])); first | exact g_us | assumption)) ?_
  refine r_irem dX6_crumbsByDigits_18 (nI_ne0 (by omega) (by omega)) (show _ = nI (x * 10 ^ 0 % y) by rw [pk_rem (by omega) (by omega) (by omega), Nat.pow_zero, Nat.mul_one]) ?_
  refine r_istore4 dX6_crumbsByDigits_19 ?_
  refine r_iconst (v := nI 0) dX6_crumbsByDigits_21 (by decide) ?_
  refine r_istore5 dX6_crumbsByDigits_22 ?_
  exact loop s 0 none (by omega)
theorem k_parts {x y s : Nat} (hs : s ≤ 4) (hx : x ≤ 9999) (hy : 1 ≤ y) (hy2 : y ≤ 12) (ho : h a = some (g_ob 4 [.int (nI x), .int (nI y)])) : g_Met K mX6_parts 1 0 0 [.ref a, .int (nI s)] h n (gJ fun r h' n' => r = lN x * lN (10 ^ s) * lN (27720 / y) ∧ h' = h ∧ n' = n) gN := by
  have m1 := p10_b hs
  refine g_Met.of (M := mX6_parts) (L := [some (.ref a), some (.int (nI s))]) (by decide +kernel) (Nat.le_of_ble_eq_true rfl) rfl ?_
  refine r_aload0 dX6_parts_0 ?_
  refine f_X6_13_X6 dX6_parts_1 (by first | assumption | exact g_us | (rw [g_un (by omega)]; assumption) | (rw [g_un (by omega)]; exact g_us) | (rw [g_un (by omega), g_un (by omega)]; assumption) | (rw [g_un (by omega), g_un (by omega)]; exact g_us) | (rw [g_un (by omega), g_un (by omega), g_un (by omega)]; assumption) | ((repeat (rw [g_un (by omega)])); first | exact g_us | assumption)) ?_
  refine r_i2l dX6_parts_4 (i2l_nI (by omega)) ?_
  refine r_iload1 dX6_parts_5 ?_
  refine r_callSN (M' := mX1_power) _ dX6_parts_6 q1835 q1836 rfl (lw_all_tbl q1837) q125 (by exact pl_X1_power)  ((k_power1 hs)) (by omega) (Nat.le_of_ble_eq_true rfl) (by omega) (by omega) rfl (Nat.le_of_ble_eq_true rfl) rfl (kI fun r6 h6 n6 e6 => ?_) kN
  obtain ⟨q9, q8, q7⟩ := e6; have q9 := q9.symm; have q8 := q8.symm; have q7 := q7.symm; subst q9; subst q8; subst q7
  refine r_i2l dX6_parts_9 (i2l_nI (by omega)) ?_
  refine r_lmul dX6_parts_10 rfl ?_
  refine r_ldc2 dX6_parts_11 q2534 ?_
  refine r_aload0 dX6_parts_14 ?_
  refine f_X6_19_X6 dX6_parts_15 (by first | assumption | exact g_us | (rw [g_un (by omega)]; assumption) | (rw [g_un (by omega)]; exact g_us) | (rw [g_un (by omega), g_un (by omega)]; assumption) | (rw [g_un (by omega), g_un (by omega)]; exact g_us) | (rw [g_un (by omega), g_un (by omega), g_un (by omega)]; assumption) | ((repeat (rw [g_un (by omega)])); first | exact g_us | assumption)) ?_
  refine r_i2l dX6_parts_18 (i2l_nI (by omega)) ?_
  refine r_ldiv dX6_parts_19 (by rw [show (0 : Int64) = lN 0 from rfl, lN_eq (by omega) (by decide)]; omega) (show _ = lN (27720 / y) by rw [show (27720 : Int64) = lN 27720 from rfl]; exact pk_lDiv (by decide) (by omega) (by omega)) ?_
  refine r_lmul dX6_parts_20 rfl ?_
  exact r_lreturn dX6_parts_21 rfl (⟨rfl, rfl, rfl⟩)
theorem k_crumbsIn2 (w0 : cOK K W) (wl : lOK K A) (k : bk K W lo hi b ρ α h) (w : wB u ρ) {i : Nat} (ij : i < ρ 0) : g_Met K mX2_crumbsIn 6 0 0 [.ref b, .int (nI i)] h n (gI fun r h' n' => r = nI (crm ρ i) ∧ h' = h ∧ n' = n) gN := by
  refine g_Met.facts fun f1 f2 f3 => ?_
  have wb := w.b
  have wd := w.d ij
  obtain ⟨k1, k2, k3, t, lb, eb, ll, el, k4, k5, k6, k7, k8⟩ := k
  obtain ⟨x, z1, z2, z3⟩ := k_getD (n := n) w0 f3 k5 (by omega) ij
  have k50 := k5
  obtain ⟨y1, N, F, mc, nk, ⟨⟨tt, hm, -⟩, -⟩, y2⟩ := k50
  refine g_Met.of (M := mX2_crumbsIn) (L := [some (.ref b), some (.int (nI i))]) (by decide +kernel) (Nat.le_of_ble_eq_true rfl) rfl ?_
  refine r_aload0 dX2_crumbsIn_0 ?_
  refine f_X2_12_X2 dX2_crumbsIn_1 k4 ?_
  refine r_iload1 dX2_crumbsIn_4 ?_
  refine r_callS (M' := mJ14_valueOf) _ dX2_crumbsIn_5 q1777 q1778 rfl (lw_all_tbl q1779) q144 (by exact pl_J14_valueOf)  ((k_valueOf w0 (by omega))) (by omega) (Nat.le_of_ble_eq_true rfl) (by omega) (by omega) rfl (Nat.le_of_ble_eq_true rfl) rfl (kA fun r5 h5 n5 t5 e5 => ?_) kN
  obtain ⟨q9, q8, q7⟩ := e5; have q9 := q9.symm; have q8 := q8.symm; have q7 := q7.symm; subst q9; subst q8; subst q7
  refine r_callV (M' := mJ1_get) _ dX2_crumbsIn_8 q1796 q1797 q1798 rfl (lw_all_tbl q1799) q128 (by exact pl_J1_get) gc_J1 hm (z3) (by omega) (Nat.le_of_ble_eq_true rfl) (by omega) (by omega) rfl (Nat.le_of_ble_eq_true rfl) rfl (kA fun r8 h8 n8 t8 e8 => ?_) kN
  obtain ⟨q9, q8, q7⟩ := e8; have q9 := q9.symm; have q8 := q8.symm; have q7 := q7.symm; subst q9; subst q8; subst q7
  refine r_checkcast dX2_crumbsIn_11 gc_X6 q1816 (Or.inl rfl) z1 ?_
  refine r_aload0 dX2_crumbsIn_14 ?_
  refine f_X2_28_X2 dX2_crumbsIn_15 k4 ?_
  refine r_aload0 dX2_crumbsIn_18 ?_
  refine f_X2_32_X2 dX2_crumbsIn_19 k4 ?_
  refine r_callSN (M' := mX1_rounding) _ dX2_crumbsIn_22 q1817 q1818 rfl (lw_all_tbl q1819) q125 (by exact pl_X1_rounding)  ((k_X1_rounding wl wb.2.2.2.2.2.1)) (by omega) (Nat.le_of_ble_eq_true rfl) (by omega) (by omega) rfl (Nat.le_of_ble_eq_true rfl) rfl (kA fun r22 h22 n22 t22 e22 => ?_) kN
  obtain ⟨q9, q8, q7⟩ := e22; have q9 := q9.symm; have q8 := q8.symm; have q7 := q7.symm; subst q9; subst q8; subst q7
  refine r_callV (M' := mX6_crumbs) _ dX2_crumbsIn_25 q1831 q1832 q1833 rfl (lw_all_tbl q1834) q146 (by exact pl_X6_crumbs) gc_X6 z1 ((k_crumbs6 wl wb.2.2.2.2.2.1 wb.2.2.2.2.1 wd.1 wd.2.1 wd.2.2.1 z1)) (by omega) (Nat.le_of_ble_eq_true rfl) (by omega) (by omega) rfl (Nat.le_of_ble_eq_true rfl) rfl (kI fun r25 h25 n25 e25 => ?_) kN
  obtain ⟨q9, q8, q7⟩ := e25; have q9 := q9.symm; have q8 := q8.symm; have q7 := q7.symm; subst q9; subst q8; subst q7
  exact r_ireturn dX2_crumbsIn_28 rfl rfl (⟨rfl, rfl, rfl⟩)
theorem k_crumbsByDigits2 (w0 : cOK K W) (wl : lOK K A) (k : bk K W lo hi b ρ α h) (w : wB u ρ) {i : Nat} (ij : i < ρ 0) : g_Met K mX2_crumbsByDigits 6 0 0 [.ref b, .int (nI i)] h n (gI fun r h' n' => r = nI (crm ρ i) ∧ h' = h ∧ n' = n) gN := by
  refine g_Met.facts fun f1 f2 f3 => ?_
  have wb := w.b
  have wd := w.d ij
  obtain ⟨k1, k2, k3, t, lb, eb, ll, el, k4, k5, k6, k7, k8⟩ := k
  obtain ⟨x, z1, z2, z3⟩ := k_getD (n := n) w0 f3 k5 (by omega) ij
  have k50 := k5
  obtain ⟨y1, N, F, mc, nk, ⟨⟨tt, hm, -⟩, -⟩, y2⟩ := k50
  refine g_Met.of (M := mX2_crumbsByDigits) (L := [some (.ref b), some (.int (nI i))]) (by decide +kernel) (Nat.le_of_ble_eq_true rfl) rfl ?_
  refine r_aload0 dX2_crumbsByDigits_0 ?_
  refine f_X2_12_X2 dX2_crumbsByDigits_1 k4 ?_
  refine r_iload1 dX2_crumbsByDigits_4 ?_
  refine r_callS (M' := mJ14_valueOf) _ dX2_crumbsByDigits_5 q1777 q1778 rfl (lw_all_tbl q1779) q144 (by exact pl_J14_valueOf)  ((k_valueOf w0 (by omega))) (by omega) (Nat.le_of_ble_eq_true rfl) (by omega) (by omega) rfl (Nat.le_of_ble_eq_true rfl) rfl (kA fun r5 h5 n5 t5 e5 => ?_) kN
  obtain ⟨q9, q8, q7⟩ := e5; have q9 := q9.symm; have q8 := q8.symm; have q7 := q7.symm; subst q9; subst q8; subst q7
  refine r_callV (M' := mJ1_get) _ dX2_crumbsByDigits_8 q1796 q1797 q1798 rfl (lw_all_tbl q1799) q128 (by exact pl_J1_get) gc_J1 hm (z3) (by omega) (Nat.le_of_ble_eq_true rfl) (by omega) (by omega) rfl (Nat.le_of_ble_eq_true rfl) rfl (kA fun r8 h8 n8 t8 e8 => ?_) kN
  obtain ⟨q9, q8, q7⟩ := e8; have q9 := q9.symm; have q8 := q8.symm; have q7 := q7.symm; subst q9; subst q8; subst q7
  refine r_checkcast dX2_crumbsByDigits_11 gc_X6 q1816 (Or.inl rfl) z1 ?_
  refine r_aload0 dX2_crumbsByDigits_14 ?_
  refine f_X2_28_X2 dX2_crumbsByDigits_15 k4 ?_
  refine r_aload0 dX2_crumbsByDigits_18 ?_
  refine f_X2_32_X2 dX2_crumbsByDigits_19 k4 ?_
  refine r_callSN (M' := mX1_rounding) _ dX2_crumbsByDigits_22 q1817 q1818 rfl (lw_all_tbl q1819) q125 (by exact pl_X1_rounding)  ((k_X1_rounding wl wb.2.2.2.2.2.1)) (by omega) (Nat.le_of_ble_eq_true rfl) (by omega) (by omega) rfl (Nat.le_of_ble_eq_true rfl) rfl (kA fun r22 h22 n22 t22 e22 => ?_) kN
  obtain ⟨q9, q8, q7⟩ := e22; have q9 := q9.symm; have q8 := q8.symm; have q7 := q7.symm; subst q9; subst q8; subst q7
  refine r_callV (M' := mX6_crumbsByDigits) _ dX2_crumbsByDigits_25 q1846 q1847 q1848 rfl (lw_all_tbl q1849) q146 (by exact pl_X6_crumbsByDigits) gc_X6 z1 ((k_digits6 wl wb.2.2.2.2.2.1 wb.2.2.2.2.1 wd.1 wd.2.1 wd.2.2.1 z1)) (by omega) (Nat.le_of_ble_eq_true rfl) (by omega) (by omega) rfl (Nat.le_of_ble_eq_true rfl) rfl (kI fun r25 h25 n25 e25 => ?_) kN
  obtain ⟨q9, q8, q7⟩ := e25; have q9 := q9.symm; have q8 := q8.symm; have q7 := q7.symm; subst q9; subst q8; subst q7
  exact r_ireturn dX2_crumbsByDigits_28 rfl rfl (⟨rfl, rfl, rfl⟩)
end
