/-! the reference changes its row -/
set_option maxRecDepth 100000
section
variable {K : g_K} {a n u : Nat} {V : Nat → Nat → Int32} {R : Nat → Nat → Nat} {A : Nat → Nat → Int64} {h : g_P}
theorem k_makes {x y : Nat} (hb : k_b K ≤ a) (m : mS a V R A h) (w : wB u (R 1)) (h6 : R 1 0 < 6) (hx : x < 2147483648) (hy : y < 2147483648) (h0 : 0 < y) : g_Met K mX3_makes 3 0 0 [.ref a, .int (nI x), .int (nI y)] h n (gI fun r h' n' => r = nI (R 1 0) ∧ mS a V (up1 R 1 (mkD (R 1) x y)) A h' ∧ mT a h h' ∧ n' = n) gN := by
  refine g_Met.of (M := mX3_makes) (L := [some (.ref a), some (.int (nI x)), some (.int (nI y))]) (by decide +kernel) (Nat.le_of_ble_eq_true rfl) rfl ?_
  refine r_aload0 dX3_makes_0 ?_
  refine r_aload0 dX3_makes_1 ?_
  refine r_iconst (v := nI 0) dX3_makes_2 (by decide) ?_
  refine r_callV (M' := mX3_at) _ dX3_makes_3 q3485 q3487 qs56 rfl (lw_all_tbl q3488) q138 (by exact pl_X3_at) gc_X3 (by first | exact m.1 | exact m0.1 | exact m1.1 | exact m2.1 | exact m3.1 | assumption | exact g_us | (rw [g_un (by omega)]; assumption) | (rw [g_un (by omega)]; exact g_us) | (rw [g_un (by omega), g_un (by omega)]; assumption) | (rw [g_un (by omega), g_un (by omega)]; exact g_us) | (rw [g_un (by omega), g_un (by omega), g_un (by omega)]; assumption) | ((repeat (rw [g_un (by omega)])); first | exact m.1 | exact m0.1 | exact m1.1 | exact m2.1 | exact m3.1 | exact g_us | assumption)) ((k_at m (by decide) (by decide))) (by omega) (Nat.le_of_ble_eq_true rfl) (by omega) (by omega) rfl (Nat.le_of_ble_eq_true rfl) rfl (kI fun r3 h3 n3 e3 => ?_) kN
  obtain ⟨rfl, rfl, rfl⟩ := e3
  refine r_iload1 dX3_makes_6 ?_
  refine r_iload2 dX3_makes_7 ?_
  refine r_callV (M' := mX3_sets) _ dX3_makes_8 q3509 q3511 qs62 rfl (lw_all_tbl q3512) q138 (by exact pl_X3_sets) gc_X3 (by first | exact m.1 | exact m0.1 | exact m1.1 | exact m2.1 | exact m3.1 | assumption | exact g_us | (rw [g_un (by omega)]; assumption) | (rw [g_un (by omega)]; exact g_us) | (rw [g_un (by omega), g_un (by omega)]; assumption) | (rw [g_un (by omega), g_un (by omega)]; exact g_us) | (rw [g_un (by omega), g_un (by omega), g_un (by omega)]; assumption) | ((repeat (rw [g_un (by omega)])); first | exact m.1 | exact m0.1 | exact m1.1 | exact m2.1 | exact m3.1 | exact g_us | assumption)) ((k_sets hb m h6 hx hy h0)) (by omega) (Nat.le_of_ble_eq_true rfl) (by omega) (by omega) rfl (Nat.le_of_ble_eq_true rfl) rfl (kV fun h8 n8 e8 => ?_) kN
  obtain ⟨m1, t1, rfl⟩ := e8
  have s0 : std (R 1) (R 1 0) x y 0 = R 1 0 := by unfold std; rw [fup_n (by omega), fup_n (by omega)]
  refine r_aload0 dX3_makes_11 ?_
  refine f_X3_13_X3 dX3_makes_12 m1.1 ?_
  refine r_iconst (v := nI 0) dX3_makes_15 (by decide) ?_
  refine r_dup2 dX3_makes_16 ?_
  refine r_laload (0) dX3_makes_17 m1.w rfl (by omega) (aL_at (by decide)) ?_
  rw [rw_at (by decide), up1_s, s0]
  refine r_lconst (v := lN 1) dX3_makes_18 (by decide) ?_
  refine r_ladd dX3_makes_19 (show _ = lN (R 1 0 + 1) from lN_add _ _) ?_
  refine r_lastore (0) dX3_makes_20 (by omega) m1.w rfl (by omega) (by rw [aL_len]; omega) ?_
  have m2 := m1.ww (q := 0) (v := R 1 0 + 1) (by omega) rfl
  rw [up1_s, up1_up1] at m2
  refine r_aload0 dX3_makes_21 ?_
  refine r_iconst (v := nI 0) dX3_makes_22 (by decide) ?_
  refine r_callV (M' := mX3_at) _ dX3_makes_23 q3485 q3487 qs56 rfl (lw_all_tbl q3488) q138 (by exact pl_X3_at) gc_X3 (by first | exact m.1 | exact m0.1 | exact m1.1 | exact m2.1 | exact m3.1 | assumption | exact g_us | (rw [g_un (by omega)]; assumption) | (rw [g_un (by omega)]; exact g_us) | (rw [g_un (by omega), g_un (by omega)]; assumption) | (rw [g_un (by omega), g_un (by omega)]; exact g_us) | (rw [g_un (by omega), g_un (by omega), g_un (by omega)]; assumption) | ((repeat (rw [g_un (by omega)])); first | exact m.1 | exact m0.1 | exact m1.1 | exact m2.1 | exact m3.1 | exact g_us | assumption)) ((k_at m2 (by decide) (by decide))) (by omega) (Nat.le_of_ble_eq_true rfl) (by omega) (by omega) rfl (Nat.le_of_ble_eq_true rfl) rfl (kI fun r23 h23 n23 e23 => ?_) kN
  obtain ⟨rfl, rfl, rfl⟩ := e23
  refine r_iconst (v := nI 1) dX3_makes_26 (by decide) ?_
  refine r_isub dX3_makes_27 (show _ = nI (R 1 0) by rw [up1_s, fup_s]; exact nI_pred _) ?_
  exact r_ireturn dX3_makes_28 rfl rfl (⟨rfl, m2, t1.tr (mT.up (k := 1) (by omega)), rfl⟩)
theorem k_mixes {k j : Nat} (hb : k_b K ≤ a) (m : mS a V R A h) (w : wB u (R 1)) (hk : k < R 1 0) (hj : j < R 1 0) (hkj : k ≠ j) : g_Met K mX3_mixes 4 0 0 [.ref a, .int (nI k), .int (nI j)] h n (gI fun r h' n' => r = nI (sAb (R 1) k j / Nat.gcd (sAb (R 1) k j) (sBe (R 1) k j)) ∧ mS a V (up1 R 1 (mxD (R 1) k j)) A h' ∧ mT a h h' ∧ n' = n) gN := by
  have b := w.b
  have t1 := sAb_b w hk hj
  have t2 := sBe_b w hk hj
  refine g_Met.of (M := mX3_mixes) (L := [some (.ref a), some (.int (nI k)), some (.int (nI j))]) (by decide +kernel) (Nat.le_of_ble_eq_true rfl) rfl ?_
  refine r_aload0 dX3_mixes_0 ?_
  refine r_iload1 dX3_mixes_1 ?_
  refine r_aload0 dX3_mixes_2 ?_
  refine r_iload1 dX3_mixes_3 ?_
  refine r_iload2 dX3_mixes_4 ?_
  refine r_callV (M' := mX3_sumAbove) _ dX3_mixes_5 q3536 q3538 qs67 rfl (lw_all_tbl q3539) q138 (by exact pl_X3_sumAbove) gc_X3 (by first | exact m.1 | exact m0.1 | exact m1.1 | exact m2.1 | exact m3.1 | assumption | exact g_us | (rw [g_un (by omega)]; assumption) | (rw [g_un (by omega)]; exact g_us) | (rw [g_un (by omega), g_un (by omega)]; assumption) | (rw [g_un (by omega), g_un (by omega)]; exact g_us) | (rw [g_un (by omega), g_un (by omega), g_un (by omega)]; assumption) | ((repeat (rw [g_un (by omega)])); first | exact m.1 | exact m0.1 | exact m1.1 | exact m2.1 | exact m3.1 | exact g_us | assumption)) ((k_sumAbove m (by omega) (by omega))) (by omega) (Nat.le_of_ble_eq_true rfl) (by omega) (by omega) rfl (Nat.le_of_ble_eq_true rfl) rfl (kI fun r5 h5 n5 e5 => ?_) kN
  obtain ⟨rfl, rfl, rfl⟩ := e5
  refine r_aload0 dX3_mixes_8 ?_
  refine r_iload1 dX3_mixes_9 ?_
  refine r_iload2 dX3_mixes_10 ?_
  refine r_callV (M' := mX3_sumBelow) _ dX3_mixes_11 q3528 q3530 qs65 rfl (lw_all_tbl q3531) q138 (by exact pl_X3_sumBelow) gc_X3 (by first | exact m.1 | exact m0.1 | exact m1.1 | exact m2.1 | exact m3.1 | assumption | exact g_us | (rw [g_un (by omega)]; assumption) | (rw [g_un (by omega)]; exact g_us) | (rw [g_un (by omega), g_un (by omega)]; assumption) | (rw [g_un (by omega), g_un (by omega)]; exact g_us) | (rw [g_un (by omega), g_un (by omega), g_un (by omega)]; assumption) | ((repeat (rw [g_un (by omega)])); first | exact m.1 | exact m0.1 | exact m1.1 | exact m2.1 | exact m3.1 | exact g_us | assumption)) ((k_sumBelow m (by omega) (by omega))) (by omega) (Nat.le_of_ble_eq_true rfl) (by omega) (by omega) rfl (Nat.le_of_ble_eq_true rfl) rfl (kI fun r11 h11 n11 e11 => ?_) kN
  obtain ⟨rfl, rfl, rfl⟩ := e11
  refine r_callV (M' := mX3_sets) _ dX3_mixes_14 q3509 q3511 qs62 rfl (lw_all_tbl q3512) q138 (by exact pl_X3_sets) gc_X3 (by first | exact m.1 | exact m0.1 | exact m1.1 | exact m2.1 | exact m3.1 | assumption | exact g_us | (rw [g_un (by omega)]; assumption) | (rw [g_un (by omega)]; exact g_us) | (rw [g_un (by omega), g_un (by omega)]; assumption) | (rw [g_un (by omega), g_un (by omega)]; exact g_us) | (rw [g_un (by omega), g_un (by omega), g_un (by omega)]; assumption) | ((repeat (rw [g_un (by omega)])); first | exact m.1 | exact m0.1 | exact m1.1 | exact m2.1 | exact m3.1 | exact g_us | assumption)) ((k_sets hb m (by omega) (by omega) (by omega) (by omega))) (by omega) (Nat.le_of_ble_eq_true rfl) (by omega) (by omega) rfl (Nat.le_of_ble_eq_true rfl) rfl (kV fun h14 n14 e14 => ?_) kN
  obtain ⟨m1, f1, rfl⟩ := e14
  refine r_aload0 dX3_mixes_17 ?_
  refine r_iload2 dX3_mixes_18 ?_
  refine r_iconst (v := nI 0) dX3_mixes_19 (by decide) ?_
  refine r_iconst (v := nI 1) dX3_mixes_20 (by decide) ?_
  refine r_callV (M' := mX3_sets) _ dX3_mixes_21 q3509 q3511 qs62 rfl (lw_all_tbl q3512) q138 (by exact pl_X3_sets) gc_X3 (by first | exact m.1 | exact m0.1 | exact m1.1 | exact m2.1 | exact m3.1 | assumption | exact g_us | (rw [g_un (by omega)]; assumption) | (rw [g_un (by omega)]; exact g_us) | (rw [g_un (by omega), g_un (by omega)]; assumption) | (rw [g_un (by omega), g_un (by omega)]; exact g_us) | (rw [g_un (by omega), g_un (by omega), g_un (by omega)]; assumption) | ((repeat (rw [g_un (by omega)])); first | exact m.1 | exact m0.1 | exact m1.1 | exact m2.1 | exact m3.1 | exact g_us | assumption)) ((k_sets hb m1 (by omega) (by decide) (by decide) (by decide))) (by omega) (Nat.le_of_ble_eq_true rfl) (by omega) (by omega) rfl (Nat.le_of_ble_eq_true rfl) rfl (kV fun h21 n21 e21 => ?_) kN
  obtain ⟨m2, f2, rfl⟩ := e21
  rw [up1_s, up1_up1] at m2
  refine r_aload0 dX3_mixes_24 ?_
  refine r_iload1 dX3_mixes_25 ?_
  refine r_iconst (v := nI 0) dX3_mixes_26 (by decide) ?_
  refine r_callV (M' := mX3_dough) _ dX3_mixes_27 q3532 q3534 qs66 rfl (lw_all_tbl q3535) q138 (by exact pl_X3_dough) gc_X3 (by first | exact m.1 | exact m0.1 | exact m1.1 | exact m2.1 | exact m3.1 | assumption | exact g_us | (rw [g_un (by omega)]; assumption) | (rw [g_un (by omega)]; exact g_us) | (rw [g_un (by omega), g_un (by omega)]; assumption) | (rw [g_un (by omega), g_un (by omega)]; exact g_us) | (rw [g_un (by omega), g_un (by omega), g_un (by omega)]; assumption) | ((repeat (rw [g_un (by omega)])); first | exact m.1 | exact m0.1 | exact m1.1 | exact m2.1 | exact m3.1 | exact g_us | assumption)) ((k_dough m2 (by omega) (by decide))) (by omega) (Nat.le_of_ble_eq_true rfl) (by omega) (by omega) rfl (Nat.le_of_ble_eq_true rfl) rfl (kI fun r27 h27 n27 e27 => ?_) kN
  obtain ⟨rfl, rfl, rfl⟩ := e27
  exact r_ireturn dX3_mixes_30 rfl rfl (⟨by rw [up1_s]; unfold std; rw [fup_n (by omega), fup_n (by omega), fup_n (by omega), show 10 + 2 * k + 0 = 10 + 2 * k by omega, fup_s], m2, f1.tr f2, rfl⟩)
theorem k_buys {x : Nat} (hb : k_b K ≤ a) (m : mS a V R A h) (w : wB u (R 1)) (h5 : R 1 1 < 5) (hx : x < 2147483648) : g_Met K mX3_buys 3 0 0 [.ref a, .int (nI x)] h n (gI fun r h' n' => r = nI (R 1 1) ∧ mS a V (up1 R 1 (mkB (R 1) x)) A h' ∧ mT a h h' ∧ n' = n) gN := by
  refine g_Met.of (M := mX3_buys) (L := [some (.ref a), some (.int (nI x))]) (by decide +kernel) (Nat.le_of_ble_eq_true rfl) rfl ?_
  refine r_aload0 dX3_buys_0 ?_
  refine f_X3_13_X3 dX3_buys_1 m.1 ?_
  refine r_bipush (v := nI 22) dX3_buys_4 (by decide) ?_
  refine r_iconst (v := nI 2) dX3_buys_6 (by decide) ?_
  refine r_aload0 dX3_buys_7 ?_
  refine r_iconst (v := nI 1) dX3_buys_8 (by decide) ?_
  refine r_callV (M' := mX3_at) _ dX3_buys_9 q3485 q3487 qs56 rfl (lw_all_tbl q3488) q138 (by exact pl_X3_at) gc_X3 (by first | exact m.1 | exact m0.1 | exact m1.1 | exact m2.1 | exact m3.1 | assumption | exact g_us | (rw [g_un (by omega)]; assumption) | (rw [g_un (by omega)]; exact g_us) | (rw [g_un (by omega), g_un (by omega)]; assumption) | (rw [g_un (by omega), g_un (by omega)]; exact g_us) | (rw [g_un (by omega), g_un (by omega), g_un (by omega)]; assumption) | ((repeat (rw [g_un (by omega)])); first | exact m.1 | exact m0.1 | exact m1.1 | exact m2.1 | exact m3.1 | exact g_us | assumption)) ((k_at m (by decide) (by decide))) (by omega) (Nat.le_of_ble_eq_true rfl) (by omega) (by omega) rfl (Nat.le_of_ble_eq_true rfl) rfl (kI fun r9 h9 n9 e9 => ?_) kN
  obtain ⟨rfl, rfl, rfl⟩ := e9
  refine r_imul dX3_buys_12 (by first | exact pk_mul _ _ | rfl) ?_
  refine r_iadd dX3_buys_13 (by first | exact nI_add _ _ | rfl) ?_
  refine r_iconst (v := nI 0) dX3_buys_14 (by decide) ?_
  refine r_iadd dX3_buys_15 (by first | exact nI_add _ _ | rfl) ?_
  refine r_iload1 dX3_buys_16 ?_
  refine r_i2l dX3_buys_17 (i2l_nI hx) ?_
  refine r_lastore ((22 + 2 * R 1 1)) dX3_buys_18 (by omega) m.w rfl (by omega) (by rw [aL_len]; omega) ?_
  have m1 := m.ww (q := 22 + 2 * R 1 1) (v := x) (by omega) rfl
  have s0 : fup (R 1) (22 + 2 * R 1 1) x 1 = R 1 1 := fup_n (by omega)
  refine r_aload0 dX3_buys_19 ?_
  refine f_X3_13_X3 dX3_buys_20 m1.1 ?_
  refine r_iconst (v := nI 1) dX3_buys_23 (by decide) ?_
  refine r_dup2 dX3_buys_24 ?_
  refine r_laload (1) dX3_buys_25 m1.w rfl (by omega) (aL_at (by decide)) ?_
  rw [rw_at (by decide), up1_s, s0]
  refine r_lconst (v := lN 1) dX3_buys_26 (by decide) ?_
  refine r_ladd dX3_buys_27 (show _ = lN (R 1 1 + 1) from lN_add _ _) ?_
  refine r_lastore (1) dX3_buys_28 (by omega) m1.w rfl (by omega) (by rw [aL_len]; omega) ?_
  have m2 := m1.ww (q := 1) (v := R 1 1 + 1) (by omega) rfl
  rw [up1_s, up1_up1] at m2
  refine r_aload0 dX3_buys_29 ?_
  refine r_iconst (v := nI 1) dX3_buys_30 (by decide) ?_
  refine r_callV (M' := mX3_at) _ dX3_buys_31 q3485 q3487 qs56 rfl (lw_all_tbl q3488) q138 (by exact pl_X3_at) gc_X3 (by first | exact m.1 | exact m0.1 | exact m1.1 | exact m2.1 | exact m3.1 | assumption | exact g_us | (rw [g_un (by omega)]; assumption) | (rw [g_un (by omega)]; exact g_us) | (rw [g_un (by omega), g_un (by omega)]; assumption) | (rw [g_un (by omega), g_un (by omega)]; exact g_us) | (rw [g_un (by omega), g_un (by omega), g_un (by omega)]; assumption) | ((repeat (rw [g_un (by omega)])); first | exact m.1 | exact m0.1 | exact m1.1 | exact m2.1 | exact m3.1 | exact g_us | assumption)) ((k_at m2 (by decide) (by decide))) (by omega) (Nat.le_of_ble_eq_true rfl) (by omega) (by omega) rfl (Nat.le_of_ble_eq_true rfl) rfl (kI fun r31 h31 n31 e31 => ?_) kN
  obtain ⟨rfl, rfl, rfl⟩ := e31
  refine r_iconst (v := nI 1) dX3_buys_34 (by decide) ?_
  refine r_isub dX3_buys_35 (show _ = nI (R 1 1) by rw [up1_s, fup_s]; exact nI_pred _) ?_
  exact r_ireturn dX3_buys_36 rfl rfl (⟨rfl, m2, (mT.up (k := 1) (by omega)).tr (mT.up (k := 1) (by omega)), rfl⟩)
theorem k_forms {x y : Nat} (hb : k_b K ≤ a) (m : mS a V R A h) (w : wB u (R 1)) (h8 : R 1 2 < 8) (hx : x < 2147483648) (hy : y < 2147483648) : g_Met K mX3_forms 3 0 0 [.ref a, .int (nI x), .int (nI y)] h n (gI fun r h' n' => r = nI (R 1 2) ∧ mS a V (up1 R 1 (mkL (R 1) x y)) A h' ∧ mT a h h' ∧ n' = n) gN := by
  refine g_Met.of (M := mX3_forms) (L := [some (.ref a), some (.int (nI x)), some (.int (nI y)), none]) (by decide +kernel) (Nat.le_of_ble_eq_true rfl) rfl ?_
  refine r_bipush (v := nI 32) dX3_forms_0 (by decide) ?_
  refine r_iconst (v := nI 3) dX3_forms_2 (by decide) ?_
  refine r_aload0 dX3_forms_3 ?_
  refine r_iconst (v := nI 2) dX3_forms_4 (by decide) ?_
  refine r_callV (M' := mX3_at) _ dX3_forms_5 q3485 q3487 qs56 rfl (lw_all_tbl q3488) q138 (by exact pl_X3_at) gc_X3 (by first | exact m.1 | exact m0.1 | exact m1.1 | exact m2.1 | exact m3.1 | assumption | exact g_us | (rw [g_un (by omega)]; assumption) | (rw [g_un (by omega)]; exact g_us) | (rw [g_un (by omega), g_un (by omega)]; assumption) | (rw [g_un (by omega), g_un (by omega)]; exact g_us) | (rw [g_un (by omega), g_un (by omega), g_un (by omega)]; assumption) | ((repeat (rw [g_un (by omega)])); first | exact m.1 | exact m0.1 | exact m1.1 | exact m2.1 | exact m3.1 | exact g_us | assumption)) ((k_at m (by decide) (by decide))) (by omega) (Nat.le_of_ble_eq_true rfl) (by omega) (by omega) rfl (Nat.le_of_ble_eq_true rfl) rfl (kI fun r5 h5 n5 e5 => ?_) kN
  obtain ⟨rfl, rfl, rfl⟩ := e5
  refine r_imul dX3_forms_8 (by first | exact pk_mul _ _ | rfl) ?_
  refine r_iadd dX3_forms_9 (by first | exact nI_add _ _ | rfl) ?_
  refine r_istore3 dX3_forms_10 ?_
  refine r_aload0 dX3_forms_11 ?_
  refine f_X3_13_X3 dX3_forms_12 m.1 ?_
  refine r_iload3 dX3_forms_15 ?_
  refine r_iconst (v := nI 0) dX3_forms_16 (by decide) ?_
  refine r_iadd dX3_forms_17 (by first | exact nI_add _ _ | rfl) ?_
  refine r_iload1 dX3_forms_18 ?_
  refine r_i2l dX3_forms_19 (i2l_nI hx) ?_
  refine r_lastore ((32 + 3 * R 1 2)) dX3_forms_20 (by omega) m.w rfl (by omega) (by rw [aL_len]; omega) ?_
  have m1 := m.ww (q := 32 + 3 * R 1 2) (v := x) (by omega) rfl
  refine r_aload0 dX3_forms_21 ?_
  refine f_X3_13_X3 dX3_forms_22 m1.1 ?_
  refine r_iload3 dX3_forms_25 ?_
  refine r_iconst (v := nI 1) dX3_forms_26 (by decide) ?_
  refine r_iadd dX3_forms_27 (by first | exact nI_add _ _ | rfl) ?_
  refine r_iload2 dX3_forms_28 ?_
  refine r_i2l dX3_forms_29 (i2l_nI hy) ?_
  refine r_lastore ((32 + 3 * R 1 2 + 1)) dX3_forms_30 (by omega) m1.w rfl (by omega) (by rw [aL_len]; omega) ?_
  have m2 := m1.w2 (q := 32 + 3 * R 1 2 + 1) (v := y) (by omega) rfl
  have s0 : fup (fup (R 1) (32 + 3 * R 1 2) x) (32 + 3 * R 1 2 + 1) y 2 = R 1 2 := by rw [fup_n (by omega), fup_n (by omega)]
  refine r_aload0 dX3_forms_31 ?_
  refine f_X3_13_X3 dX3_forms_32 m2.1 ?_
  refine r_iconst (v := nI 2) dX3_forms_35 (by decide) ?_
  refine r_dup2 dX3_forms_36 ?_
  refine r_laload (2) dX3_forms_37 m2.w rfl (by omega) (aL_at (by decide)) ?_
  rw [rw_at (by decide), up1_s, s0]
  refine r_lconst (v := lN 1) dX3_forms_38 (by decide) ?_
  refine r_ladd dX3_forms_39 (show _ = lN (R 1 2 + 1) from lN_add _ _) ?_
  refine r_lastore (2) dX3_forms_40 (by omega) m2.w rfl (by omega) (by rw [aL_len]; omega) ?_
  have m3 := (m2.w2 (q := 2) (v := R 1 2 + 1) (by omega) rfl).to rfl (show _ = up1 R 1 (mkL (R 1) x y) by rw [show 32 + 3 * R 1 2 + 1 = 33 + 3 * R 1 2 by omega]; rfl) rfl
  refine r_aload0 dX3_forms_41 ?_
  refine r_iconst (v := nI 2) dX3_forms_42 (by decide) ?_
  refine r_callV (M' := mX3_at) _ dX3_forms_43 q3485 q3487 qs56 rfl (lw_all_tbl q3488) q138 (by exact pl_X3_at) gc_X3 (by first | exact m.1 | exact m0.1 | exact m1.1 | exact m2.1 | exact m3.1 | assumption | exact g_us | (rw [g_un (by omega)]; assumption) | (rw [g_un (by omega)]; exact g_us) | (rw [g_un (by omega), g_un (by omega)]; assumption) | (rw [g_un (by omega), g_un (by omega)]; exact g_us) | (rw [g_un (by omega), g_un (by omega), g_un (by omega)]; assumption) | ((repeat (rw [g_un (by omega)])); first | exact m.1 | exact m0.1 | exact m1.1 | exact m2.1 | exact m3.1 | exact g_us | assumption)) ((k_at m3 (by decide) (by decide))) (by omega) (Nat.le_of_ble_eq_true rfl) (by omega) (by omega) rfl (Nat.le_of_ble_eq_true rfl) rfl (kI fun r43 h43 n43 e43 => ?_) kN
  obtain ⟨rfl, rfl, rfl⟩ := e43
  refine r_iconst (v := nI 1) dX3_forms_46 (by decide) ?_
  refine r_isub dX3_forms_47 (show _ = nI (R 1 2) by rw [up1_s]; unfold mkL; rw [fup_s]; exact nI_pred _) ?_
  exact r_ireturn dX3_forms_48 rfl rfl (⟨rfl, m3, ((mT.up (k := 1) (by omega)).tr (mT.up (k := 1) (by omega))).tr (mT.up (k := 1) (by omega)), rfl⟩)
theorem k_takes {k x : Nat} (hb : k_b K ≤ a) (m : mS a V R A h) (hk : k < 56) (hk2 : k < 6 ∨ 10 ≤ k) (hx : x < 2147483648) : g_Met K mX3_takes 2 0 0 [.ref a, .int (nI k), .int (nI x)] h n (gI fun r h' n' => r = nI (R 1 k) ∧ mS a V (up1 R 1 (fup (R 1) k x)) A h' ∧ mT a h h' ∧ n' = n) gN := by
  refine g_Met.of (M := mX3_takes) (L := [some (.ref a), some (.int (nI k)), some (.int (nI x)), none]) (by decide +kernel) (Nat.le_of_ble_eq_true rfl) rfl ?_
  refine r_aload0 dX3_takes_0 ?_
  refine r_iload1 dX3_takes_1 ?_
  refine r_callV (M' := mX3_at) _ dX3_takes_2 q3485 q3487 qs56 rfl (lw_all_tbl q3488) q138 (by exact pl_X3_at) gc_X3 (by first | exact m.1 | exact m0.1 | exact m1.1 | exact m2.1 | exact m3.1 | assumption | exact g_us | (rw [g_un (by omega)]; assumption) | (rw [g_un (by omega)]; exact g_us) | (rw [g_un (by omega), g_un (by omega)]; assumption) | (rw [g_un (by omega), g_un (by omega)]; exact g_us) | (rw [g_un (by omega), g_un (by omega), g_un (by omega)]; assumption) | ((repeat (rw [g_un (by omega)])); first | exact m.1 | exact m0.1 | exact m1.1 | exact m2.1 | exact m3.1 | exact g_us | assumption)) ((k_at m hk hk2)) (by omega) (Nat.le_of_ble_eq_true rfl) (by omega) (by omega) rfl (Nat.le_of_ble_eq_true rfl) rfl (kI fun r2 h2 n2 e2 => ?_) kN
  obtain ⟨rfl, rfl, rfl⟩ := e2
  refine r_istore3 dX3_takes_5 ?_
  refine r_aload0 dX3_takes_6 ?_
  refine f_X3_13_X3 dX3_takes_7 m.1 ?_
  refine r_iload1 dX3_takes_10 ?_
  refine r_iload2 dX3_takes_11 ?_
  refine r_i2l dX3_takes_12 (i2l_nI hx) ?_
  refine r_lastore (k) dX3_takes_13 (by omega) m.w rfl (by omega) (by rw [aL_len]; omega) ?_
  refine r_iload3 dX3_takes_14 ?_
  exact r_ireturn dX3_takes_15 rfl rfl (⟨rfl, m.ww hk2 rfl, mT.up (k := 1) (by omega), rfl⟩)
theorem k_empties {k : Nat} (hb : k_b K ≤ a) (m : mS a V R A h) (w : wB u (R 1)) (hk : k < R 1 1) : g_Met K mX3_empties 3 0 0 [.ref a, .int (nI k)] h n (gI fun r h' n' => r = nI (R 1 (23 + 2 * k)) ∧ mS a V (up1 R 1 (fup (R 1) (23 + 2 * k) 0)) (up1 A 1 (fup (A 1) 8 (A 1 8 + lN (R 1 (23 + 2 * k))))) h' ∧ mT a h h' ∧ n' = n) gN := by
  have b := w.b
  have b1 := w.o hk
  refine g_Met.of (M := mX3_empties) (L := [some (.ref a), some (.int (nI k)), none]) (by decide +kernel) (Nat.le_of_ble_eq_true rfl) rfl ?_
  refine r_aload0 dX3_empties_0 ?_
  refine r_bipush (v := nI 22) dX3_empties_1 (by decide) ?_
  refine r_iconst (v := nI 2) dX3_empties_3 (by decide) ?_
  refine r_iload1 dX3_empties_4 ?_
  refine r_imul dX3_empties_5 (by first | exact pk_mul _ _ | rfl) ?_
  refine r_iadd dX3_empties_6 (by first | exact nI_add _ _ | rfl) ?_
  refine r_iconst (v := nI 1) dX3_empties_7 (by decide) ?_
  refine r_iadd dX3_empties_8 (by first | exact nI_add _ _ | rfl) ?_
  refine r_iconst (v := nI 0) dX3_empties_9 (by decide) ?_
  refine r_callV (M' := mX3_takes) _ dX3_empties_10 q3604 q3606 qs80 rfl (lw_all_tbl q3607) q138 (by exact pl_X3_takes) gc_X3 (by first | exact m.1 | exact m0.1 | exact m1.1 | exact m2.1 | exact m3.1 | assumption | exact g_us | (rw [g_un (by omega)]; assumption) | (rw [g_un (by omega)]; exact g_us) | (rw [g_un (by omega), g_un (by omega)]; assumption) | (rw [g_un (by omega), g_un (by omega)]; exact g_us) | (rw [g_un (by omega), g_un (by omega), g_un (by omega)]; assumption) | ((repeat (rw [g_un (by omega)])); first | exact m.1 | exact m0.1 | exact m1.1 | exact m2.1 | exact m3.1 | exact g_us | assumption)) ((k_takes hb m (by omega) (by omega) (by decide))) (by omega) (Nat.le_of_ble_eq_true rfl) (by omega) (by omega) rfl (Nat.le_of_ble_eq_true rfl) rfl (kI fun r10 h10 n10 e10 => ?_) kN
  obtain ⟨rfl, m1, t1, rfl⟩ := e10
  rw [show 22 + 2 * k + 1 = 23 + 2 * k by omega] at m1 ⊢
  refine r_istore2 dX3_empties_13 ?_
  refine r_aload0 dX3_empties_14 ?_
  refine f_X3_13_X3 dX3_empties_15 m1.1 ?_
  refine r_bipush (v := nI 8) dX3_empties_18 (by decide) ?_
  refine r_dup2 dX3_empties_20 ?_
  refine r_laload (8) dX3_empties_21 m1.w rfl (by omega) (by rw [aL_at (by decide), rw_ac (by decide) (by decide)]) ?_
  refine r_iload2 dX3_empties_22 ?_
  refine r_i2l dX3_empties_23 (i2l_nI (by omega)) ?_
  refine r_ladd dX3_empties_24 rfl ?_
  refine r_lastore (8) dX3_empties_25 (by omega) m1.w rfl (by omega) (by rw [aL_len]; omega) ?_
  refine r_iload2 dX3_empties_26 ?_
  exact r_ireturn dX3_empties_27 rfl rfl (⟨rfl, m1.wa (by decide) (by decide) rfl, t1.tr (mT.up (k := 1) (by omega)), rfl⟩)
end
