/-! the reference: doughs, conditions -/
set_option maxRecDepth 100000
section
variable {K : g_K} {a n u : Nat} {V : Nat → Nat → Int32} {R : Nat → Nat → Nat} {A : Nat → Nat → Int64} {h : g_P}
theorem k_divisor {x y : Nat} (hx : x < 2147483648) (hy : y < 2147483648) : g_Met K mX3_divisor 1 0 0 [.int (nI x), .int (nI y)] h n (gI fun r h' n' => r = nI (Nat.gcd x y) ∧ h' = h ∧ n' = n) gN := by
  refine g_Met.of (M := mX3_divisor) (L := [some (.int (nI x)), some (.int (nI y)), none, none, none]) (by decide +kernel) (Nat.le_of_ble_eq_true rfl) rfl ?_
  have loop : ∀ (j i k : Nat) (o : Option Value), g_c1 o → k ≤ j → i < 2147483648 → k < 2147483648 → Nat.gcd i k = Nat.gcd x y → g_G K mX3_divisor 1 0 0 (gI fun r h' n' => r = nI (Nat.gcd x y) ∧ h' = h ∧ n' = n) gN 4 [some (.int (nI x)), some (.int (nI y)), some (.int (nI i)), some (.int (nI k)), o] [] h n := by
    intro j
    induction j with
    | zero =>
      intro i k o ho hk hi hk2 hg
      have hk : k = 0 := by omega
      subst hk
      refine r_iload3 dX3_divisor_4 ?_
      refine r_if_eqN (tgt := 21) dX3_divisor_5 (by decide) (by omega) (fun c5 => ?_) (fun c5 => absurd c5 (by omega))
      refine r_iload2 dX3_divisor_21 ?_
      exact r_ireturn dX3_divisor_22 rfl rfl (⟨by rw [← hg, Nat.gcd_zero_right], rfl, rfl⟩)
    | succ j ih =>
      intro i k o ho hk hi hk2 hg
      refine r_iload3 dX3_divisor_4 ?_
      refine r_if_eqN (tgt := 21) dX3_divisor_5 (by decide) (by omega) (fun c5 => ?_) (fun c5 => ?_)
      · refine r_iload2 dX3_divisor_21 ?_
        exact r_ireturn dX3_divisor_22 rfl rfl (⟨by rw [← hg, c5, Nat.gcd_zero_right], rfl, rfl⟩)
      · refine r_iload2 dX3_divisor_8 ?_
        refine r_iload3 dX3_divisor_9 ?_
        have hm := Nat.mod_lt i (show 0 < k by omega)
        refine r_irem dX3_divisor_10 (nI_ne0 (by omega) (by omega)) (by first | exact pk_rem (by omega) (by omega) (by omega) | rfl) ?_
        refine r_istore4 dX3_divisor_11 ?_
        refine r_iload3 dX3_divisor_13 ?_
        refine r_istore2 dX3_divisor_14 ?_
        refine r_iload4 dX3_divisor_15 ?_
        refine r_istore3 dX3_divisor_17 ?_
        refine r_goto (tgt := 4) dX3_divisor_18 (by decide) ?_
        exact ih k (i % k) _ g_c1i (by omega) (by omega) (by omega) (by rw [← hg, Nat.gcd_comm k, ← Nat.gcd_rec, Nat.gcd_comm])
  refine r_iload0 dX3_divisor_0 ?_
  refine r_istore2 dX3_divisor_1 ?_
  refine r_iload1 dX3_divisor_2 ?_
  refine r_istore3 dX3_divisor_3 ?_
  exact loop y x y none g_c1n (Nat.le_refl _) hx hy rfl
theorem k_sets {k x y : Nat} (hb : k_b K ≤ a) (m : mS a V R A h) (hk : k < 6) (hx : x < 2147483648) (hy : y < 2147483648) (h0 : 0 < y) : g_Met K mX3_sets 2 0 0 [.ref a, .int (nI k), .int (nI x), .int (nI y)] h n (gV fun h' n' => mS a V (up1 R 1 (std (R 1) k x y)) A h' ∧ mT a h h' ∧ n' = n) gN := by
  have g0 : 0 < Nat.gcd x y := Nat.gcd_pos_of_pos_right _ h0
  have g1 : Nat.gcd x y ≤ y := Nat.gcd_le_right _ h0
  refine g_Met.of (M := mX3_sets) (L := [some (.ref a), some (.int (nI k)), some (.int (nI x)), some (.int (nI y)), none]) (by decide +kernel) (Nat.le_of_ble_eq_true rfl) rfl ?_
  refine r_iload3 dX3_sets_0 ?_
  refine r_iload2 dX3_sets_1 ?_
  refine r_callS (M' := mX3_divisor) _ dX3_sets_2 q3513 q3514 rfl (lw_all_tbl q3515) q138 (by exact pl_X3_divisor)  ((k_divisor hy hx)) (by omega) (Nat.le_of_ble_eq_true rfl) (by omega) (by omega) rfl (Nat.le_of_ble_eq_true rfl) rfl (kI fun r2 h2 n2 e2 => ?_) kN
  obtain ⟨rfl, rfl, rfl⟩ := e2
  rw [Nat.gcd_comm y x]
  refine r_istore4 dX3_sets_5 ?_
  refine r_aload0 dX3_sets_7 ?_
  refine f_X3_13_X3 dX3_sets_8 m.1 ?_
  refine r_bipush (v := nI 10) dX3_sets_11 (by decide) ?_
  refine r_iconst (v := nI 2) dX3_sets_13 (by decide) ?_
  refine r_iload1 dX3_sets_14 ?_
  refine r_imul dX3_sets_15 (by first | exact pk_mul _ _ | rfl) ?_
  refine r_iadd dX3_sets_16 (by first | exact nI_add _ _ | rfl) ?_
  refine r_iconst (v := nI 0) dX3_sets_17 (by decide) ?_
  refine r_iadd dX3_sets_18 (by first | exact nI_add _ _ | rfl) ?_
  refine r_iload2 dX3_sets_19 ?_
  refine r_iload4 dX3_sets_20 ?_
  refine r_idiv dX3_sets_22 (nI_ne0 (by omega) (by omega)) (by first | exact pk_div (by omega) (by omega) (by omega) | rfl) ?_
  refine r_i2l dX3_sets_23 (i2l_nI (Nat.lt_of_le_of_lt (Nat.div_le_self _ _) hx)) ?_
  refine r_lastore ((10 + 2 * k)) dX3_sets_24 (by omega) m.w rfl (by omega) (by rw [aL_len]; omega) ?_
  refine r_aload0 dX3_sets_25 ?_
  have m1 := m.ww (q := 10 + 2 * k) (v := x / Nat.gcd x y) (by omega) rfl
  refine f_X3_13_X3 dX3_sets_26 m1.1 ?_
  refine r_bipush (v := nI 10) dX3_sets_29 (by decide) ?_
  refine r_iconst (v := nI 2) dX3_sets_31 (by decide) ?_
  refine r_iload1 dX3_sets_32 ?_
  refine r_imul dX3_sets_33 (by first | exact pk_mul _ _ | rfl) ?_
  refine r_iadd dX3_sets_34 (by first | exact nI_add _ _ | rfl) ?_
  refine r_iconst (v := nI 1) dX3_sets_35 (by decide) ?_
  refine r_iadd dX3_sets_36 (by first | exact nI_add _ _ | rfl) ?_
  refine r_iload3 dX3_sets_37 ?_
  refine r_iload4 dX3_sets_38 ?_
  refine r_idiv dX3_sets_40 (nI_ne0 (by omega) (by omega)) (by first | exact pk_div (by omega) (by omega) (by omega) | rfl) ?_
  refine r_i2l dX3_sets_41 (i2l_nI (Nat.lt_of_le_of_lt (Nat.div_le_self _ _) hy)) ?_
  refine r_lastore ((10 + 2 * k + 1)) dX3_sets_42 (by omega) m1.w rfl (by omega) (by rw [aL_len]; omega) ?_
  have m2 := m1.ww (q := 10 + 2 * k + 1) (v := y / Nat.gcd x y) (by omega) rfl
  exact r_return dX3_sets_43 rfl (⟨m2.to rfl (by rw [up1_s, up1_up1, show 10 + 2 * k + 1 = 11 + 2 * k by omega]; rfl) rfl, (mT.up (k := 1) (by omega)).tr (mT.up (k := 1) (by omega)), rfl⟩)
theorem k_sumAbove {k j : Nat} (m : mS a V R A h) (hk : k < 6) (hj : j < 6) : g_Met K mX3_sumAbove 3 0 0 [.ref a, .int (nI k), .int (nI j)] h n (gI fun r h' n' => r = nI (sAb (R 1) k j) ∧ h' = h ∧ n' = n) gN := by
  refine g_Met.of (M := mX3_sumAbove) (L := [some (.ref a), some (.int (nI k)), some (.int (nI j))]) (by decide +kernel) (Nat.le_of_ble_eq_true rfl) rfl ?_
  refine r_aload0 dX3_sumAbove_0 ?_
  refine r_iload1 dX3_sumAbove_1 ?_
  refine r_iconst (v := nI 0) dX3_sumAbove_2 (by decide) ?_
  refine r_callV (M' := mX3_dough) _ dX3_sumAbove_3 q3532 q3534 qs66 rfl (lw_all_tbl q3535) q138 (by exact pl_X3_dough) gc_X3 (by first | exact m.1 | exact m0.1 | exact m1.1 | exact m2.1 | exact m3.1 | assumption | exact g_us | (rw [g_un (by omega)]; assumption) | (rw [g_un (by omega)]; exact g_us) | (rw [g_un (by omega), g_un (by omega)]; assumption) | (rw [g_un (by omega), g_un (by omega)]; exact g_us) | (rw [g_un (by omega), g_un (by omega), g_un (by omega)]; assumption) | ((repeat (rw [g_un (by omega)])); first | exact m.1 | exact m0.1 | exact m1.1 | exact m2.1 | exact m3.1 | exact g_us | assumption)) ((k_dough m hk (by decide))) (by omega) (Nat.le_of_ble_eq_true rfl) (by omega) (by omega) rfl (Nat.le_of_ble_eq_true rfl) rfl (kI fun r3 h3 n3 e3 => ?_) kN
  obtain ⟨rfl, rfl, rfl⟩ := e3
  refine r_aload0 dX3_sumAbove_6 ?_
  refine r_iload2 dX3_sumAbove_7 ?_
  refine r_iconst (v := nI 1) dX3_sumAbove_8 (by decide) ?_
  refine r_callV (M' := mX3_dough) _ dX3_sumAbove_9 q3532 q3534 qs66 rfl (lw_all_tbl q3535) q138 (by exact pl_X3_dough) gc_X3 (by first | exact m.1 | exact m0.1 | exact m1.1 | exact m2.1 | exact m3.1 | assumption | exact g_us | (rw [g_un (by omega)]; assumption) | (rw [g_un (by omega)]; exact g_us) | (rw [g_un (by omega), g_un (by omega)]; assumption) | (rw [g_un (by omega), g_un (by omega)]; exact g_us) | (rw [g_un (by omega), g_un (by omega), g_un (by omega)]; assumption) | ((repeat (rw [g_un (by omega)])); first | exact m.1 | exact m0.1 | exact m1.1 | exact m2.1 | exact m3.1 | exact g_us | assumption)) ((k_dough m hj (by decide))) (by omega) (Nat.le_of_ble_eq_true rfl) (by omega) (by omega) rfl (Nat.le_of_ble_eq_true rfl) rfl (kI fun r9 h9 n9 e9 => ?_) kN
  obtain ⟨rfl, rfl, rfl⟩ := e9
  refine r_imul dX3_sumAbove_12 (by first | exact pk_mul _ _ | rfl) ?_
  refine r_aload0 dX3_sumAbove_13 ?_
  refine r_iload2 dX3_sumAbove_14 ?_
  refine r_iconst (v := nI 0) dX3_sumAbove_15 (by decide) ?_
  refine r_callV (M' := mX3_dough) _ dX3_sumAbove_16 q3532 q3534 qs66 rfl (lw_all_tbl q3535) q138 (by exact pl_X3_dough) gc_X3 (by first | exact m.1 | exact m0.1 | exact m1.1 | exact m2.1 | exact m3.1 | assumption | exact g_us | (rw [g_un (by omega)]; assumption) | (rw [g_un (by omega)]; exact g_us) | (rw [g_un (by omega), g_un (by omega)]; assumption) | (rw [g_un (by omega), g_un (by omega)]; exact g_us) | (rw [g_un (by omega), g_un (by omega), g_un (by omega)]; assumption) | ((repeat (rw [g_un (by omega)])); first | exact m.1 | exact m0.1 | exact m1.1 | exact m2.1 | exact m3.1 | exact g_us | assumption)) ((k_dough m hj (by decide))) (by omega) (Nat.le_of_ble_eq_true rfl) (by omega) (by omega) rfl (Nat.le_of_ble_eq_true rfl) rfl (kI fun r16 h16 n16 e16 => ?_) kN
  obtain ⟨rfl, rfl, rfl⟩ := e16
  refine r_aload0 dX3_sumAbove_19 ?_
  refine r_iload1 dX3_sumAbove_20 ?_
  refine r_iconst (v := nI 1) dX3_sumAbove_21 (by decide) ?_
  refine r_callV (M' := mX3_dough) _ dX3_sumAbove_22 q3532 q3534 qs66 rfl (lw_all_tbl q3535) q138 (by exact pl_X3_dough) gc_X3 (by first | exact m.1 | exact m0.1 | exact m1.1 | exact m2.1 | exact m3.1 | assumption | exact g_us | (rw [g_un (by omega)]; assumption) | (rw [g_un (by omega)]; exact g_us) | (rw [g_un (by omega), g_un (by omega)]; assumption) | (rw [g_un (by omega), g_un (by omega)]; exact g_us) | (rw [g_un (by omega), g_un (by omega), g_un (by omega)]; assumption) | ((repeat (rw [g_un (by omega)])); first | exact m.1 | exact m0.1 | exact m1.1 | exact m2.1 | exact m3.1 | exact g_us | assumption)) ((k_dough m hk (by decide))) (by omega) (Nat.le_of_ble_eq_true rfl) (by omega) (by omega) rfl (Nat.le_of_ble_eq_true rfl) rfl (kI fun r22 h22 n22 e22 => ?_) kN
  obtain ⟨rfl, rfl, rfl⟩ := e22
  refine r_imul dX3_sumAbove_25 (by first | exact pk_mul _ _ | rfl) ?_
  refine r_iadd dX3_sumAbove_26 (by first | exact nI_add _ _ | rfl) ?_
  exact r_ireturn dX3_sumAbove_27 rfl rfl (⟨by unfold sAb; rw [show 11 + 2 * k = 10 + 2 * k + 1 by omega, show 11 + 2 * j = 10 + 2 * j + 1 by omega]; rfl, rfl, rfl⟩)
theorem k_sumBelow {k j : Nat} (m : mS a V R A h) (hk : k < 6) (hj : j < 6) : g_Met K mX3_sumBelow 3 0 0 [.ref a, .int (nI k), .int (nI j)] h n (gI fun r h' n' => r = nI (sBe (R 1) k j) ∧ h' = h ∧ n' = n) gN := by
  refine g_Met.of (M := mX3_sumBelow) (L := [some (.ref a), some (.int (nI k)), some (.int (nI j))]) (by decide +kernel) (Nat.le_of_ble_eq_true rfl) rfl ?_
  refine r_aload0 dX3_sumBelow_0 ?_
  refine r_iload1 dX3_sumBelow_1 ?_
  refine r_iconst (v := nI 1) dX3_sumBelow_2 (by decide) ?_
  refine r_callV (M' := mX3_dough) _ dX3_sumBelow_3 q3532 q3534 qs66 rfl (lw_all_tbl q3535) q138 (by exact pl_X3_dough) gc_X3 (by first | exact m.1 | exact m0.1 | exact m1.1 | exact m2.1 | exact m3.1 | assumption | exact g_us | (rw [g_un (by omega)]; assumption) | (rw [g_un (by omega)]; exact g_us) | (rw [g_un (by omega), g_un (by omega)]; assumption) | (rw [g_un (by omega), g_un (by omega)]; exact g_us) | (rw [g_un (by omega), g_un (by omega), g_un (by omega)]; assumption) | ((repeat (rw [g_un (by omega)])); first | exact m.1 | exact m0.1 | exact m1.1 | exact m2.1 | exact m3.1 | exact g_us | assumption)) ((k_dough m hk (by decide))) (by omega) (Nat.le_of_ble_eq_true rfl) (by omega) (by omega) rfl (Nat.le_of_ble_eq_true rfl) rfl (kI fun r3 h3 n3 e3 => ?_) kN
  obtain ⟨rfl, rfl, rfl⟩ := e3
  refine r_aload0 dX3_sumBelow_6 ?_
  refine r_iload2 dX3_sumBelow_7 ?_
  refine r_iconst (v := nI 1) dX3_sumBelow_8 (by decide) ?_
  refine r_callV (M' := mX3_dough) _ dX3_sumBelow_9 q3532 q3534 qs66 rfl (lw_all_tbl q3535) q138 (by exact pl_X3_dough) gc_X3 (by first | exact m.1 | exact m0.1 | exact m1.1 | exact m2.1 | exact m3.1 | assumption | exact g_us | (rw [g_un (by omega)]; assumption) | (rw [g_un (by omega)]; exact g_us) | (rw [g_un (by omega), g_un (by omega)]; assumption) | (rw [g_un (by omega), g_un (by omega)]; exact g_us) | (rw [g_un (by omega), g_un (by omega), g_un (by omega)]; assumption) | ((repeat (rw [g_un (by omega)])); first | exact m.1 | exact m0.1 | exact m1.1 | exact m2.1 | exact m3.1 | exact g_us | assumption)) ((k_dough m hj (by decide))) (by omega) (Nat.le_of_ble_eq_true rfl) (by omega) (by omega) rfl (Nat.le_of_ble_eq_true rfl) rfl (kI fun r9 h9 n9 e9 => ?_) kN
  obtain ⟨rfl, rfl, rfl⟩ := e9
  refine r_imul dX3_sumBelow_12 (by first | exact pk_mul _ _ | rfl) ?_
  exact r_ireturn dX3_sumBelow_13 rfl rfl (⟨by unfold sBe; rw [show 11 + 2 * k = 10 + 2 * k + 1 by omega, show 11 + 2 * j = 10 + 2 * j + 1 by omega], rfl, rfl⟩)
theorem k_notMix {p q : Int32} (m : mS a V R A h) (w : wB u (R 1)) : g_Met K mX3_notMix 4 0 0 [.ref a, .int p, .int q] h n (gI fun r h' n' => r = nI (eMx (R 1) p q) ∧ h' = h ∧ n' = n) gN := by
  have b := w.b
  refine g_Met.of (M := mX3_notMix) (L := [some (.ref a), some (.int p), some (.int q), none]) (by decide +kernel) (Nat.le_of_ble_eq_true rfl) rfl ?_
  refine r_aload0 dX3_notMix_0 ?_
  refine r_iload1 dX3_notMix_1 ?_
  refine r_callV (M' := mX3_isDough) _ dX3_notMix_2 q3524 q3526 qs64 rfl (lw_all_tbl q3527) q138 (by exact pl_X3_isDough) gc_X3 (by first | exact m.1 | exact m0.1 | exact m1.1 | exact m2.1 | exact m3.1 | assumption | exact g_us | (rw [g_un (by omega)]; assumption) | (rw [g_un (by omega)]; exact g_us) | (rw [g_un (by omega), g_un (by omega)]; assumption) | (rw [g_un (by omega), g_un (by omega)]; exact g_us) | (rw [g_un (by omega), g_un (by omega), g_un (by omega)]; assumption) | ((repeat (rw [g_un (by omega)])); first | exact m.1 | exact m0.1 | exact m1.1 | exact m2.1 | exact m3.1 | exact g_us | assumption)) ((k_isDough m w)) (by omega) (Nat.le_of_ble_eq_true rfl) (by omega) (by omega) rfl (Nat.le_of_ble_eq_true rfl) rfl (kI fun r2 h2 n2 e2 => ?_) kN
  obtain ⟨rfl, rfl, rfl⟩ := e2
  refine r_if_eqB (tgt := 16) dX3_notMix_5 (by decide) (fun c5 => ?_) (fun c5 => ?_)
  · refine r_iconst (v := nI 1) dX3_notMix_16 (by decide) ?_
    exact r_ireturn dX3_notMix_17 rfl rfl (⟨by unfold eMx; rw [if_pos (fun z => c5 z.1)], rfl, rfl⟩)
  · refine r_aload0 dX3_notMix_8 ?_
    refine r_iload2 dX3_notMix_9 ?_
    refine r_callV (M' := mX3_isDough) _ dX3_notMix_10 q3524 q3526 qs64 rfl (lw_all_tbl q3527) q138 (by exact pl_X3_isDough) gc_X3 (by first | exact m.1 | exact m0.1 | exact m1.1 | exact m2.1 | exact m3.1 | assumption | exact g_us | (rw [g_un (by omega)]; assumption) | (rw [g_un (by omega)]; exact g_us) | (rw [g_un (by omega), g_un (by omega)]; assumption) | (rw [g_un (by omega), g_un (by omega)]; exact g_us) | (rw [g_un (by omega), g_un (by omega), g_un (by omega)]; assumption) | ((repeat (rw [g_un (by omega)])); first | exact m.1 | exact m0.1 | exact m1.1 | exact m2.1 | exact m3.1 | exact g_us | assumption)) ((k_isDough m w)) (by omega) (Nat.le_of_ble_eq_true rfl) (by omega) (by omega) rfl (Nat.le_of_ble_eq_true rfl) rfl (kI fun r10 h10 n10 e10 => ?_) kN
    obtain ⟨rfl, rfl, rfl⟩ := e10
    refine r_if_neB (tgt := 18) dX3_notMix_13 (by decide) (fun c13 => ?_) (fun c13 => ?_)
    · refine r_iload1 dX3_notMix_18 ?_
      refine r_iload2 dX3_notMix_19 ?_
      refine r_icmp_ne (tgt := 25) dX3_notMix_20 (by decide) (fun c20 => ?_) (fun c20 => ?_)
      · obtain ⟨i, hi, rfl, ti⟩ := ix_ex c5
        obtain ⟨j, hj, rfl, tj⟩ := ix_ex c13
        have t1 := sAb_b w hi hj
        have t2 := sBe_b w hi hj
        have t3 : 0 < Nat.gcd (sAb (R 1) i j) (sBe (R 1) i j) := Nat.gcd_pos_of_pos_right _ (by omega)
        have t4 : Nat.gcd (sAb (R 1) i j) (sBe (R 1) i j) ≤ 144 := Nat.le_trans (Nat.gcd_le_right _ (by omega)) t2.2
        have t5 := Nat.div_le_self (sAb (R 1) i j) (Nat.gcd (sAb (R 1) i j) (sBe (R 1) i j))
        have t6 := Nat.div_le_self (sBe (R 1) i j) (Nat.gcd (sAb (R 1) i j) (sBe (R 1) i j))
        refine r_aload0 dX3_notMix_25 ?_
        refine r_iload1 dX3_notMix_26 ?_
        refine r_iload2 dX3_notMix_27 ?_
        refine r_callV (M' := mX3_sumBelow) _ dX3_notMix_28 q3528 q3530 qs65 rfl (lw_all_tbl q3531) q138 (by exact pl_X3_sumBelow) gc_X3 (by first | exact m.1 | exact m0.1 | exact m1.1 | exact m2.1 | exact m3.1 | assumption | exact g_us | (rw [g_un (by omega)]; assumption) | (rw [g_un (by omega)]; exact g_us) | (rw [g_un (by omega), g_un (by omega)]; assumption) | (rw [g_un (by omega), g_un (by omega)]; exact g_us) | (rw [g_un (by omega), g_un (by omega), g_un (by omega)]; assumption) | ((repeat (rw [g_un (by omega)])); first | exact m.1 | exact m0.1 | exact m1.1 | exact m2.1 | exact m3.1 | exact g_us | assumption)) ((k_sumBelow m (by omega) (by omega))) (by omega) (Nat.le_of_ble_eq_true rfl) (by omega) (by omega) rfl (Nat.le_of_ble_eq_true rfl) rfl (kI fun r28 h28 n28 e28 => ?_) kN
        obtain ⟨rfl, rfl, rfl⟩ := e28
        refine r_aload0 dX3_notMix_31 ?_
        refine r_iload1 dX3_notMix_32 ?_
        refine r_iload2 dX3_notMix_33 ?_
        refine r_callV (M' := mX3_sumAbove) _ dX3_notMix_34 q3536 q3538 qs67 rfl (lw_all_tbl q3539) q138 (by exact pl_X3_sumAbove) gc_X3 (by first | exact m.1 | exact m0.1 | exact m1.1 | exact m2.1 | exact m3.1 | assumption | exact g_us | (rw [g_un (by omega)]; assumption) | (rw [g_un (by omega)]; exact g_us) | (rw [g_un (by omega), g_un (by omega)]; assumption) | (rw [g_un (by omega), g_un (by omega)]; exact g_us) | (rw [g_un (by omega), g_un (by omega), g_un (by omega)]; assumption) | ((repeat (rw [g_un (by omega)])); first | exact m.1 | exact m0.1 | exact m1.1 | exact m2.1 | exact m3.1 | exact g_us | assumption)) ((k_sumAbove m (by omega) (by omega))) (by omega) (Nat.le_of_ble_eq_true rfl) (by omega) (by omega) rfl (Nat.le_of_ble_eq_true rfl) rfl (kI fun r34 h34 n34 e34 => ?_) kN
        obtain ⟨rfl, rfl, rfl⟩ := e34
        refine r_callS (M' := mX3_divisor) _ dX3_notMix_37 q3513 q3514 rfl (lw_all_tbl q3515) q138 (by exact pl_X3_divisor)  ((k_divisor (by omega) (by omega))) (by omega) (Nat.le_of_ble_eq_true rfl) (by omega) (by omega) rfl (Nat.le_of_ble_eq_true rfl) rfl (kI fun r37 h37 n37 e37 => ?_) kN
        obtain ⟨rfl, rfl, rfl⟩ := e37
        rw [Nat.gcd_comm]
        refine r_istore3 dX3_notMix_40 ?_
        refine r_aload0 dX3_notMix_41 ?_
        refine r_iload1 dX3_notMix_42 ?_
        refine r_iload2 dX3_notMix_43 ?_
        refine r_callV (M' := mX3_sumAbove) _ dX3_notMix_44 q3536 q3538 qs67 rfl (lw_all_tbl q3539) q138 (by exact pl_X3_sumAbove) gc_X3 (by first | exact m.1 | exact m0.1 | exact m1.1 | exact m2.1 | exact m3.1 | assumption | exact g_us | (rw [g_un (by omega)]; assumption) | (rw [g_un (by omega)]; exact g_us) | (rw [g_un (by omega), g_un (by omega)]; assumption) | (rw [g_un (by omega), g_un (by omega)]; exact g_us) | (rw [g_un (by omega), g_un (by omega), g_un (by omega)]; assumption) | ((repeat (rw [g_un (by omega)])); first | exact m.1 | exact m0.1 | exact m1.1 | exact m2.1 | exact m3.1 | exact g_us | assumption)) ((k_sumAbove m (by omega) (by omega))) (by omega) (Nat.le_of_ble_eq_true rfl) (by omega) (by omega) rfl (Nat.le_of_ble_eq_true rfl) rfl (kI fun r44 h44 n44 e44 => ?_) kN
        obtain ⟨rfl, rfl, rfl⟩ := e44
        refine r_iload3 dX3_notMix_47 ?_
        refine r_idiv dX3_notMix_48 (nI_ne0 (by omega) (by omega)) (by first | exact pk_div (by omega) (by omega) (by omega) | rfl) ?_
        refine r_sipush (v := nI 9999) dX3_notMix_49 (by decide) ?_
        refine r_icmp_gtN (tgt := 68) dX3_notMix_52 (by decide) (by omega) (by omega) (fun c52 => ?_) (fun c52 => ?_)
        · refine r_iconst (v := nI 3) dX3_notMix_68 (by decide) ?_
          refine r_goto (tgt := 73) dX3_notMix_69 (by decide) ?_
          exact r_ireturn dX3_notMix_73 rfl rfl (⟨by unfold eMx; rw [if_neg (fun z => z ⟨c5, c13⟩), if_neg c20, ti, tj, if_pos (Or.inl c52)], rfl, rfl⟩)
        · refine r_aload0 dX3_notMix_55 ?_
          refine r_iload1 dX3_notMix_56 ?_
          refine r_iload2 dX3_notMix_57 ?_
          refine r_callV (M' := mX3_sumBelow) _ dX3_notMix_58 q3528 q3530 qs65 rfl (lw_all_tbl q3531) q138 (by exact pl_X3_sumBelow) gc_X3 (by first | exact m.1 | exact m0.1 | exact m1.1 | exact m2.1 | exact m3.1 | assumption | exact g_us | (rw [g_un (by omega)]; assumption) | (rw [g_un (by omega)]; exact g_us) | (rw [g_un (by omega), g_un (by omega)]; assumption) | (rw [g_un (by omega), g_un (by omega)]; exact g_us) | (rw [g_un (by omega), g_un (by omega), g_un (by omega)]; assumption) | ((repeat (rw [g_un (by omega)])); first | exact m.1 | exact m0.1 | exact m1.1 | exact m2.1 | exact m3.1 | exact g_us | assumption)) ((k_sumBelow m (by omega) (by omega))) (by omega) (Nat.le_of_ble_eq_true rfl) (by omega) (by omega) rfl (Nat.le_of_ble_eq_true rfl) rfl (kI fun r58 h58 n58 e58 => ?_) kN
          obtain ⟨rfl, rfl, rfl⟩ := e58
          refine r_iload3 dX3_notMix_61 ?_
          refine r_idiv dX3_notMix_62 (nI_ne0 (by omega) (by omega)) (by first | exact pk_div (by omega) (by omega) (by omega) | rfl) ?_
          refine r_bipush (v := nI 12) dX3_notMix_63 (by decide) ?_
          refine r_icmp_leN (tgt := 72) dX3_notMix_65 (by decide) (by omega) (by omega) (fun c65 => ?_) (fun c65 => ?_)
          · refine r_iconst (v := nI 0) dX3_notMix_72 (by decide) ?_
            exact r_ireturn dX3_notMix_73 rfl rfl (⟨by unfold eMx; rw [if_neg (fun z => z ⟨c5, c13⟩), if_neg c20, ti, tj, if_neg (by omega)], rfl, rfl⟩)
          · refine r_iconst (v := nI 3) dX3_notMix_68 (by decide) ?_
            refine r_goto (tgt := 73) dX3_notMix_69 (by decide) ?_
            exact r_ireturn dX3_notMix_73 rfl rfl (⟨by unfold eMx; rw [if_neg (fun z => z ⟨c5, c13⟩), if_neg c20, ti, tj, if_pos (by omega)], rfl, rfl⟩)
      · refine r_iconst (v := nI 2) dX3_notMix_23 (by decide) ?_
        exact r_ireturn dX3_notMix_24 rfl rfl (⟨by unfold eMx; rw [if_neg (fun z => z ⟨c5, c13⟩), if_pos c20], rfl, rfl⟩)
    · refine r_iconst (v := nI 1) dX3_notMix_16 (by decide) ?_
      exact r_ireturn dX3_notMix_17 rfl rfl (⟨by unfold eMx; rw [if_pos (fun z => c13 z.2)], rfl, rfl⟩)
end
