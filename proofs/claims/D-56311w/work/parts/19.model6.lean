/-! the reference sells, pours, bakes -/
set_option maxRecDepth 100000
section
variable {K : g_K} {a n u : Nat} {V : Nat → Nat → Int32} {R : Nat → Nat → Nat} {A : Nat → Nat → Int64} {h : g_P}
theorem k_sells {i : Nat} (hb : k_b K ≤ a) (m : mS a V R A h) (w : wB u (R 1)) (hi : i < R 1 2) : g_Met K mX3_sells 3 0 0 [.ref a, .int (nI i)] h n (gI fun r h' n' => r = nI (R 1 (34 + 3 * i)) ∧ mS a V (up1 R 1 (slL (R 1) i)) (up1 A 1 (fup (A 1) 8 (A 1 8 + lN (R 1 (34 + 3 * i))))) h' ∧ mT a h h' ∧ n' = n) gN := by
  have b := w.b
  have b1 := w.l hi
  refine g_Met.of (M := mX3_sells) (L := [some (.ref a), some (.int (nI i)), none, none, none]) (by decide +kernel) (Nat.le_of_ble_eq_true rfl) rfl ?_
  have loop2 : ∀ (j k : Nat) (h1 : g_P), k + j = 3 → mS a V (up1 R 1 (slA (R 1) i (32 + 3 * (R 1 2 - 1)) k)) (up1 A 1 (fup (A 1) 8 (A 1 8 + lN (R 1 (34 + 3 * i))))) h1 → mT a h h1 → g_G K mX3_sells 3 0 0 (gI fun r h' n' => r = nI (R 1 (34 + 3 * i)) ∧ mS a V (up1 R 1 (slL (R 1) i)) (up1 A 1 (fup (A 1) 8 (A 1 8 + lN (R 1 (34 + 3 * i))))) h' ∧ mT a h h' ∧ n' = n) gN 79 [some (.ref a), some (.int (nI i)), some (.int (nI (R 1 (34 + 3 * i)))), some (.int (nI (32 + 3 * (R 1 2 - 1)))), some (.int (nI k))] [] h1 n := by
    intro j
    induction j with
    | zero =>
      intro k h1 hk m1 t1
      have hk : k = 3 := by omega
      subst hk
      refine r_iload4 dX3_sells_79 ?_
      refine r_iconst (v := nI 3) dX3_sells_81 (by decide) ?_
      refine r_icmp_geN (tgt := 101) dX3_sells_82 (by decide) (by omega) (by omega) (fun c82 => ?_) (fun c82 => absurd c82 (by omega))
      refine r_iload2 dX3_sells_101 ?_
      exact r_ireturn dX3_sells_102 rfl rfl (⟨rfl, m1.to rfl (by rw [slA_3]) rfl, t1, rfl⟩)
    | succ j ih =>
      intro k h1 hk m1 t1
      refine r_iload4 dX3_sells_79 ?_
      refine r_iconst (v := nI 3) dX3_sells_81 (by decide) ?_
      refine r_icmp_geN (tgt := 101) dX3_sells_82 (by decide) (by omega) (by omega) (fun c82 => absurd c82 (by omega)) (fun c82 => ?_)
      refine r_aload0 dX3_sells_85 ?_
      refine f_X3_13_X3 dX3_sells_86 m1.1 ?_
      refine r_iload3 dX3_sells_89 ?_
      refine r_iload4 dX3_sells_90 ?_
      refine r_iadd dX3_sells_92 (by first | exact nI_add _ _ | rfl) ?_
      refine r_lconst (v := lN 0) dX3_sells_93 (by decide) ?_
      refine r_lastore ((32 + 3 * (R 1 2 - 1) + k)) dX3_sells_94 (by omega) m1.w rfl (by omega) (by rw [aL_len]; omega) ?_
      refine r_iinc4 dX3_sells_95 (ii1 _) ?_
      refine r_goto (tgt := 79) dX3_sells_98 (by decide) ?_
      exact ih (k + 1) _ (by omega) ((m1.ww (q := 32 + 3 * (R 1 2 - 1) + k) (v := 0) (by omega) rfl).to rfl (by rw [up1_s, up1_up1, slA_j hi]) rfl) (t1.tr (mT.up (k := 1) (by omega)))
  have loop1 : ∀ (j k : Nat) (h1 : g_P), k + j = 32 + 3 * (R 1 2 - 1) → 32 + 3 * i ≤ k → mS a V (up1 R 1 (slA (R 1) i k 0)) (up1 A 1 (fup (A 1) 8 (A 1 8 + lN (R 1 (34 + 3 * i))))) h1 → mT a h h1 → g_G K mX3_sells 3 0 0 (gI fun r h' n' => r = nI (R 1 (34 + 3 * i)) ∧ mS a V (up1 R 1 (slL (R 1) i)) (up1 A 1 (fup (A 1) 8 (A 1 8 + lN (R 1 (34 + 3 * i))))) h' ∧ mT a h h' ∧ n' = n) gN 48 [some (.ref a), some (.int (nI i)), some (.int (nI (R 1 (34 + 3 * i)))), some (.int (nI (32 + 3 * (R 1 2 - 1)))), some (.int (nI k))] [] h1 n := by
    intro j
    induction j with
    | zero =>
      intro k h1 hk hk2 m1 t1
      have hk : k = 32 + 3 * (R 1 2 - 1) := by omega
      subst hk
      refine r_iload4 dX3_sells_48 ?_
      refine r_iload3 dX3_sells_50 ?_
      refine r_icmp_geN (tgt := 76) dX3_sells_51 (by decide) (by omega) (by omega) (fun c51 => ?_) (fun c51 => absurd c51 (by omega))
      refine r_iconst (v := nI 0) dX3_sells_76 (by decide) ?_
      refine r_istore4 dX3_sells_77 ?_
      exact loop2 3 0 h1 rfl m1 t1
    | succ j ih =>
      intro k h1 hk hk2 m1 t1
      refine r_iload4 dX3_sells_48 ?_
      refine r_iload3 dX3_sells_50 ?_
      refine r_icmp_geN (tgt := 76) dX3_sells_51 (by decide) (by omega) (by omega) (fun c51 => absurd c51 (by omega)) (fun c51 => ?_)
      refine r_aload0 dX3_sells_54 ?_
      refine f_X3_13_X3 dX3_sells_55 m1.1 ?_
      refine r_iload4 dX3_sells_58 ?_
      refine r_aload0 dX3_sells_60 ?_
      refine f_X3_13_X3 dX3_sells_61 m1.1 ?_
      refine r_iload4 dX3_sells_64 ?_
      refine r_iconst (v := nI 3) dX3_sells_66 (by decide) ?_
      refine r_iadd dX3_sells_67 (by first | exact nI_add _ _ | rfl) ?_
      refine r_laload ((k + 3)) dX3_sells_68 m1.w rfl (by omega) (by rw [aL_at (by omega), rw_at (by omega), up1_s, slA_at hk2]) ?_
      refine r_lastore (k) dX3_sells_69 (by omega) m1.w rfl (by omega) (by rw [aL_len]; omega) ?_
      refine r_iinc4 dX3_sells_70 (ii1 _) ?_
      refine r_goto (tgt := 48) dX3_sells_73 (by decide) ?_
      exact ih (k + 1) _ (by omega) (by omega) ((m1.ww (q := k) (v := R 1 (k + 3)) (by omega) rfl).to rfl (by rw [up1_s, up1_up1, slA_k hk2 (by omega)]) rfl) (t1.tr (mT.up (k := 1) (by omega)))
  refine r_aload0 dX3_sells_0 ?_
  refine r_iload1 dX3_sells_1 ?_
  refine r_iconst (v := nI 2) dX3_sells_2 (by decide) ?_
  refine r_callV (M' := mX3_loaf) _ dX3_sells_3 q3580 q3582 qs75 rfl (lw_all_tbl q3583) q138 (by exact pl_X3_loaf) gc_X3 (by first | exact m.1 | exact m0.1 | exact m1.1 | exact m2.1 | exact m3.1 | assumption | exact g_us | (rw [g_un (by omega)]; assumption) | (rw [g_un (by omega)]; exact g_us) | (rw [g_un (by omega), g_un (by omega)]; assumption) | (rw [g_un (by omega), g_un (by omega)]; exact g_us) | (rw [g_un (by omega), g_un (by omega), g_un (by omega)]; assumption) | ((repeat (rw [g_un (by omega)])); first | exact m.1 | exact m0.1 | exact m1.1 | exact m2.1 | exact m3.1 | exact g_us | assumption)) ((k_loaf m (by omega) (by decide))) (by omega) (Nat.le_of_ble_eq_true rfl) (by omega) (by omega) rfl (Nat.le_of_ble_eq_true rfl) rfl (kI fun r3 h3 n3 e3 => ?_) kN
  obtain ⟨rfl, rfl, rfl⟩ := e3
  rw [show 32 + 3 * i + 2 = 34 + 3 * i by omega]
  refine r_istore2 dX3_sells_6 ?_
  refine r_aload0 dX3_sells_7 ?_
  refine f_X3_13_X3 dX3_sells_8 m.1 ?_
  refine r_bipush (v := nI 8) dX3_sells_11 (by decide) ?_
  refine r_dup2 dX3_sells_13 ?_
  refine r_laload (8) dX3_sells_14 m.w rfl (by omega) (by rw [aL_at (by decide), rw_ac (by decide) (by decide)]) ?_
  refine r_iload2 dX3_sells_15 ?_
  refine r_i2l dX3_sells_16 (i2l_nI (by omega)) ?_
  refine r_ladd dX3_sells_17 rfl ?_
  refine r_lastore (8) dX3_sells_18 (by omega) m.w rfl (by omega) (by rw [aL_len]; omega) ?_
  have m1 := m.wa (q := 8) (x := A 1 8 + lN (R 1 (34 + 3 * i))) (by decide) (by decide) rfl
  refine r_aload0 dX3_sells_19 ?_
  refine f_X3_13_X3 dX3_sells_20 m1.1 ?_
  refine r_iconst (v := nI 2) dX3_sells_23 (by decide) ?_
  refine r_dup2 dX3_sells_24 ?_
  refine r_laload (2) dX3_sells_25 m1.w rfl (by omega) (by rw [aL_at (by decide), rw_at (by decide)]) ?_
  refine r_lconst (v := lN 1) dX3_sells_26 (by decide) ?_
  refine r_lsub dX3_sells_27 (show _ = lN (R 1 2 - 1) from lN_sub (by omega)) ?_
  refine r_lastore (2) dX3_sells_28 (by omega) m1.w rfl (by omega) (by rw [aL_len]; omega) ?_
  have m2 := m1.ww (q := 2) (v := R 1 2 - 1) (by decide) rfl
  refine r_bipush (v := nI 32) dX3_sells_29 (by decide) ?_
  refine r_iconst (v := nI 3) dX3_sells_31 (by decide) ?_
  refine r_aload0 dX3_sells_32 ?_
  refine r_iconst (v := nI 2) dX3_sells_33 (by decide) ?_
  refine r_callV (M' := mX3_at) _ dX3_sells_34 q3485 q3487 qs56 rfl (lw_all_tbl q3488) q138 (by exact pl_X3_at) gc_X3 (by first | exact m.1 | exact m0.1 | exact m1.1 | exact m2.1 | exact m3.1 | assumption | exact g_us | (rw [g_un (by omega)]; assumption) | (rw [g_un (by omega)]; exact g_us) | (rw [g_un (by omega), g_un (by omega)]; assumption) | (rw [g_un (by omega), g_un (by omega)]; exact g_us) | (rw [g_un (by omega), g_un (by omega), g_un (by omega)]; assumption) | ((repeat (rw [g_un (by omega)])); first | exact m.1 | exact m0.1 | exact m1.1 | exact m2.1 | exact m3.1 | exact g_us | assumption)) ((k_at m2 (by decide) (by decide))) (by omega) (Nat.le_of_ble_eq_true rfl) (by omega) (by omega) rfl (Nat.le_of_ble_eq_true rfl) rfl (kI fun r34 h34 n34 e34 => ?_) kN
  obtain ⟨rfl, rfl, rfl⟩ := e34
  rw [up1_s, fup_s]
  refine r_imul dX3_sells_37 (by first | exact pk_mul _ _ | rfl) ?_
  refine r_iadd dX3_sells_38 (by first | exact nI_add _ _ | rfl) ?_
  refine r_istore3 dX3_sells_39 ?_
  refine r_bipush (v := nI 32) dX3_sells_40 (by decide) ?_
  refine r_iconst (v := nI 3) dX3_sells_42 (by decide) ?_
  refine r_iload1 dX3_sells_43 ?_
  refine r_imul dX3_sells_44 (by first | exact pk_mul _ _ | rfl) ?_
  refine r_iadd dX3_sells_45 (by first | exact nI_add _ _ | rfl) ?_
  refine r_istore4 dX3_sells_46 ?_
  exact loop1 (32 + 3 * (R 1 2 - 1) - (32 + 3 * i)) (32 + 3 * i) _ (by omega) (by omega) (m2.to rfl (by rw [slA_0]) rfl) ((mT.up (k := 1) (by omega)).tr (mT.up (k := 1) (by omega)))
theorem k_bakes {i : Nat} (hb : k_b K ≤ a) (m : mS a V R A h) (w : wB u (R 1)) (hu : u < 20000) (hi : i < R 1 1) : g_Met K mX3_bakes 6 0 0 [.ref a, .int (nI i)] h n (gI fun r h' n' => r = nI (R 1 (23 + 2 * i)) ∧ mS a V (up1 R 1 (bkD (R 1) i)) A h' ∧ mT a h h' ∧ n' = n) gN := by
  have b := w.b
  have b1 := w.o hi
  have w0 : wB u (fup (R 1) (23 + 2 * i) 0) := by
    obtain ⟨w1, w2, w3, w4, w5, w6⟩ := w
    have e : ∀ q, q ≠ 23 + 2 * i → fup (R 1) (23 + 2 * i) 0 q = R 1 q := fun q hq => fup_n hq
    unfold wB
    rw [e 0 (by omega), e 1 (by omega), e 2 (by omega), e 3 (by omega), e 4 (by omega), e 5 (by omega)]
    refine ⟨w1, fun k hk => ?_, fun k hk => ?_, fun k hk hk2 => ?_, fun k hk => ?_, fun k hk hk2 => ?_⟩
    · rw [e _ (by omega), e _ (by omega)]; exact w2 k hk
    · rw [e _ (by omega)]
      have := w3 k hk
      by_cases q : k = i
      · subst q; rw [fup_s]; omega
      · rw [e _ (by omega)]; exact this
    · by_cases q : k = i
      · subst q; rw [fup_s]
      · rw [e _ (by omega)]; exact w4 k hk hk2
    · rw [e _ (by omega), e _ (by omega), e _ (by omega)]; exact w5 k hk
    · rw [e _ (by omega)]; exact w6 k hk hk2
  have z2 : fup (R 1) (23 + 2 * i) 0 2 = R 1 2 := fup_n (by omega)
  refine g_Met.of (M := mX3_bakes) (L := [some (.ref a), some (.int (nI i)), none, none]) (by decide +kernel) (Nat.le_of_ble_eq_true rfl) rfl ?_
  have loop : ∀ (j k : Nat) (h1 : g_P), k + j = R 1 2 → mS a V (up1 R 1 (bkN (fup (R 1) (23 + 2 * i) 0) (R 1 (23 + 2 * i)) k)) A h1 → mT a h h1 → g_G K mX3_bakes 6 0 0 (gI fun r h' n' => r = nI (R 1 (23 + 2 * i)) ∧ mS a V (up1 R 1 (bkD (R 1) i)) A h' ∧ mT a h h' ∧ n' = n) gN 16 [some (.ref a), some (.int (nI i)), some (.int (nI (R 1 (23 + 2 * i)))), some (.int (nI k))] [] h1 n := by
    intro j
    induction j with
    | zero =>
      intro k h1 hk m1 t1
      have hk : k = R 1 2 := by omega
      subst hk
      refine r_iload3 dX3_bakes_16 ?_
      refine r_aload0 dX3_bakes_17 ?_
      refine r_iconst (v := nI 2) dX3_bakes_18 (by decide) ?_
      refine r_callV (M' := mX3_at) _ dX3_bakes_19 q3485 q3487 qs56 rfl (lw_all_tbl q3488) q138 (by exact pl_X3_at) gc_X3 (by first | exact m.1 | exact m0.1 | exact m1.1 | exact m2.1 | exact m3.1 | assumption | exact g_us | (rw [g_un (by omega)]; assumption) | (rw [g_un (by omega)]; exact g_us) | (rw [g_un (by omega), g_un (by omega)]; assumption) | (rw [g_un (by omega), g_un (by omega)]; exact g_us) | (rw [g_un (by omega), g_un (by omega), g_un (by omega)]; assumption) | ((repeat (rw [g_un (by omega)])); first | exact m.1 | exact m0.1 | exact m1.1 | exact m2.1 | exact m3.1 | exact g_us | assumption)) ((k_at m1 (by decide) (by decide))) (by omega) (Nat.le_of_ble_eq_true rfl) (by omega) (by omega) rfl (Nat.le_of_ble_eq_true rfl) rfl (kI fun r19 h19 n19 e19 => ?_) kN
      obtain ⟨rfl, rfl, rfl⟩ := e19
      rw [up1_s, bkN_out (by omega), z2]
      refine r_icmp_geN (tgt := 54) dX3_bakes_22 (by decide) (by omega) (by omega) (fun c22 => ?_) (fun c22 => absurd c22 (by omega))
      refine r_iload2 dX3_bakes_54 ?_
      exact r_ireturn dX3_bakes_55 rfl rfl (⟨rfl, m1, t1, rfl⟩)
    | succ j ih =>
      intro k h1 hk m1 t1
      have w1 := w0.bk (c := R 1 (23 + 2 * i)) (j := k) hu (by omega) (by omega)
      have b2 := w.l (k := k) (by omega)
      have b3 := shr_le w0 (c := R 1 (23 + 2 * i)) (k := k) (by omega)
      refine r_iload3 dX3_bakes_16 ?_
      refine r_aload0 dX3_bakes_17 ?_
      refine r_iconst (v := nI 2) dX3_bakes_18 (by decide) ?_
      refine r_callV (M' := mX3_at) _ dX3_bakes_19 q3485 q3487 qs56 rfl (lw_all_tbl q3488) q138 (by exact pl_X3_at) gc_X3 (by first | exact m.1 | exact m0.1 | exact m1.1 | exact m2.1 | exact m3.1 | assumption | exact g_us | (rw [g_un (by omega)]; assumption) | (rw [g_un (by omega)]; exact g_us) | (rw [g_un (by omega), g_un (by omega)]; assumption) | (rw [g_un (by omega), g_un (by omega)]; exact g_us) | (rw [g_un (by omega), g_un (by omega), g_un (by omega)]; assumption) | ((repeat (rw [g_un (by omega)])); first | exact m.1 | exact m0.1 | exact m1.1 | exact m2.1 | exact m3.1 | exact g_us | assumption)) ((k_at m1 (by decide) (by decide))) (by omega) (Nat.le_of_ble_eq_true rfl) (by omega) (by omega) rfl (Nat.le_of_ble_eq_true rfl) rfl (kI fun r19 h19 n19 e19 => ?_) kN
      obtain ⟨rfl, rfl, rfl⟩ := e19
      rw [up1_s, bkN_out (by omega), z2]
      refine r_icmp_geN (tgt := 54) dX3_bakes_22 (by decide) (by omega) (by omega) (fun c22 => absurd c22 (by omega)) (fun c22 => ?_)
      refine r_aload0 dX3_bakes_25 ?_
      refine f_X3_13_X3 dX3_bakes_26 m1.1 ?_
      refine r_bipush (v := nI 32) dX3_bakes_29 (by decide) ?_
      refine r_iconst (v := nI 3) dX3_bakes_31 (by decide) ?_
      refine r_iload3 dX3_bakes_32 ?_
      refine r_imul dX3_bakes_33 (by first | exact pk_mul _ _ | rfl) ?_
      refine r_iadd dX3_bakes_34 (by first | exact nI_add _ _ | rfl) ?_
      refine r_iconst (v := nI 2) dX3_bakes_35 (by decide) ?_
      refine r_iadd dX3_bakes_36 (by first | exact nI_add _ _ | rfl) ?_
      refine r_dup2 dX3_bakes_37 ?_
      refine r_laload ((32 + 3 * k + 2)) dX3_bakes_38 m1.w rfl (by omega) (by rw [aL_at (by omega), rw_at (by omega), up1_s]) ?_
      refine r_aload0 dX3_bakes_39 ?_
      refine r_iload2 dX3_bakes_40 ?_
      refine r_iload3 dX3_bakes_41 ?_
      refine r_callV (M' := mX3_shared) _ dX3_bakes_42 q3664 q3666 qs90 rfl (lw_all_tbl q3667) q138 (by exact pl_X3_shared) gc_X3 (by first | exact m.1 | exact m0.1 | exact m1.1 | exact m2.1 | exact m3.1 | assumption | exact g_us | (rw [g_un (by omega)]; assumption) | (rw [g_un (by omega)]; exact g_us) | (rw [g_un (by omega), g_un (by omega)]; assumption) | (rw [g_un (by omega), g_un (by omega)]; exact g_us) | (rw [g_un (by omega), g_un (by omega), g_un (by omega)]; assumption) | ((repeat (rw [g_un (by omega)])); first | exact m.1 | exact m0.1 | exact m1.1 | exact m2.1 | exact m3.1 | exact g_us | assumption)) ((k_shared m1 (by rw [up1_s]; exact w1) (by omega) (by rw [up1_s, bkN_out (by omega)]; omega))) (by omega) (Nat.le_of_ble_eq_true rfl) (by omega) (by omega) rfl (Nat.le_of_ble_eq_true rfl) rfl (kI fun r42 h42 n42 e42 => ?_) kN
      obtain ⟨rfl, rfl, rfl⟩ := e42
      rw [up1_s, shr_ext (ρ := fup (R 1) (23 + 2 * i) 0) (bkN_out (by omega)) (fun j => bkN_out (by omega))]
      refine r_i2l dX3_bakes_45 (i2l_nI (by omega)) ?_
      refine r_ladd dX3_bakes_46 (show _ = lN (bkN (fup (R 1) (23 + 2 * i) 0) (R 1 (23 + 2 * i)) k (32 + 3 * k + 2) + shr (fup (R 1) (23 + 2 * i) 0) (R 1 (23 + 2 * i)) k) from lN_add _ _) ?_
      refine r_lastore ((32 + 3 * k + 2)) dX3_bakes_47 (by omega) m1.w rfl (by omega) (by rw [aL_len]; omega) ?_
      refine r_iinc3 dX3_bakes_48 (ii1 _) ?_
      refine r_goto (tgt := 16) dX3_bakes_51 (by decide) ?_
      exact ih (k + 1) _ (by omega) ((m1.ww (q := 32 + 3 * k + 2) (by omega) rfl).to rfl (by rw [up1_s, up1_up1, show 32 + 3 * k + 2 = 34 + 3 * k by omega, bkN_s]) rfl) (t1.tr (mT.up (k := 1) (by omega)))
  refine r_aload0 dX3_bakes_0 ?_
  refine r_bipush (v := nI 22) dX3_bakes_1 (by decide) ?_
  refine r_iconst (v := nI 2) dX3_bakes_3 (by decide) ?_
  refine r_iload1 dX3_bakes_4 ?_
  refine r_imul dX3_bakes_5 (by first | exact pk_mul _ _ | rfl) ?_
  refine r_iadd dX3_bakes_6 (by first | exact nI_add _ _ | rfl) ?_
  refine r_iconst (v := nI 1) dX3_bakes_7 (by decide) ?_
  refine r_iadd dX3_bakes_8 (by first | exact nI_add _ _ | rfl) ?_
  refine r_iconst (v := nI 0) dX3_bakes_9 (by decide) ?_
  refine r_callV (M' := mX3_takes) _ dX3_bakes_10 q3604 q3606 qs80 rfl (lw_all_tbl q3607) q138 (by exact pl_X3_takes) gc_X3 (by first | exact m.1 | exact m0.1 | exact m1.1 | exact m2.1 | exact m3.1 | assumption | exact g_us | (rw [g_un (by omega)]; assumption) | (rw [g_un (by omega)]; exact g_us) | (rw [g_un (by omega), g_un (by omega)]; assumption) | (rw [g_un (by omega), g_un (by omega)]; exact g_us) | (rw [g_un (by omega), g_un (by omega), g_un (by omega)]; assumption) | ((repeat (rw [g_un (by omega)])); first | exact m.1 | exact m0.1 | exact m1.1 | exact m2.1 | exact m3.1 | exact g_us | assumption)) ((k_takes hb m (by omega) (by omega) (by decide))) (by omega) (Nat.le_of_ble_eq_true rfl) (by omega) (by omega) rfl (Nat.le_of_ble_eq_true rfl) rfl (kI fun r10 h10 n10 e10 => ?_) kN
  obtain ⟨rfl, m1, t1, rfl⟩ := e10
  rw [show 22 + 2 * i + 1 = 23 + 2 * i by omega] at m1 ⊢
  refine r_istore2 dX3_bakes_13 ?_
  refine r_iconst (v := nI 0) dX3_bakes_14 (by decide) ?_
  refine r_istore3 dX3_bakes_15 ?_
  exact loop (R 1 2) 0 _ (by omega) (m1.to rfl (by rw [bkN_0]) rfl) t1
theorem k_pours {k i : Nat} (hb : k_b K ≤ a) (m : mS a V R A h) (w : wB u (R 1)) (hk : k < R 1 0) (hi : i < R 1 1) : g_Met K mX3_pours 5 0 0 [.ref a, .int (nI k), .int (nI i)] h n (gI fun r h' n' => r = nI (poD (R 1) k i).2 ∧ mS a V (up1 R 1 (poD (R 1) k i).1) (up1 A 1 (fup (fup (fup (A 1) 6 (A 1 6 + lN (crm (R 1) k))) 9 (A 1 9 + erp (R 1) k)) 7 (A 1 7 + lN (poD (R 1) k i).2))) h' ∧ mT a h h' ∧ n' = n) gN := by
  have b := w.b
  have b1 := crm_b w hk
  have s0 : ∀ q, 22 ≤ q ∨ q < 10 → std (R 1) k 0 1 q = R 1 q := fun q hq => by unfold std; rw [fup_n (by omega), fup_n (by omega)]
  refine g_Met.of (M := mX3_pours) (L := [some (.ref a), some (.int (nI k)), some (.int (nI i)), none, none, none, none]) (by decide +kernel) (Nat.le_of_ble_eq_true rfl) rfl ?_
  have loop : ∀ (j r : Nat) (o1 o2 : Option Value) (h1 : g_P), g_c1 o1 → g_c1 o2 → i + r + j = R 1 1 → mS a V (up1 R 1 (prN (std (R 1) k 0 1) i (crm (R 1) k) r).1) (up1 A 1 (fup (fup (A 1) 6 (A 1 6 + lN (crm (R 1) k))) 9 (A 1 9 + erp (R 1) k))) h1 → mT a h h1 → g_G K mX3_pours 5 0 0 (gI fun r h' n' => r = nI (poD (R 1) k i).2 ∧ mS a V (up1 R 1 (poD (R 1) k i).1) (up1 A 1 (fup (fup (fup (A 1) 6 (A 1 6 + lN (crm (R 1) k))) 9 (A 1 9 + erp (R 1) k)) 7 (A 1 7 + lN (poD (R 1) k i).2))) h' ∧ mT a h h' ∧ n' = n) gN 43 [some (.ref a), some (.int (nI k)), some (.int (nI i)), some (.int (nI (prN (std (R 1) k 0 1) i (crm (R 1) k) r).2)), some (.int (nI (i + r))), o1, o2] [] h1 n := by
    intro j
    induction j with
    | zero =>
      intro r o1 o2 h1 ho1 ho2 hr m1 t1
      have hr : r = R 1 1 - i := by omega
      subst hr
      have b2 := prN_le (ρ := std (R 1) k 0 1) (i := i) (l := crm (R 1) k) (j := R 1 1 - i)
      refine r_iload4 dX3_pours_43 ?_
      refine r_aload0 dX3_pours_45 ?_
      refine r_iconst (v := nI 1) dX3_pours_46 (by decide) ?_
      refine r_callV (M' := mX3_at) _ dX3_pours_47 q3485 q3487 qs56 rfl (lw_all_tbl q3488) q138 (by exact pl_X3_at) gc_X3 (by first | exact m.1 | exact m0.1 | exact m1.1 | exact m2.1 | exact m3.1 | assumption | exact g_us | (rw [g_un (by omega)]; assumption) | (rw [g_un (by omega)]; exact g_us) | (rw [g_un (by omega), g_un (by omega)]; assumption) | (rw [g_un (by omega), g_un (by omega)]; exact g_us) | (rw [g_un (by omega), g_un (by omega), g_un (by omega)]; assumption) | ((repeat (rw [g_un (by omega)])); first | exact m.1 | exact m0.1 | exact m1.1 | exact m2.1 | exact m3.1 | exact g_us | assumption)) ((k_at m1 (by decide) (by decide))) (by omega) (Nat.le_of_ble_eq_true rfl) (by omega) (by omega) rfl (Nat.le_of_ble_eq_true rfl) rfl (kI fun r47 h47 n47 e47 => ?_) kN
      obtain ⟨rfl, rfl, rfl⟩ := e47
      rw [up1_s, prN_out (by omega), s0 _ (by omega)]
      refine r_icmp_geN (tgt := 115) dX3_pours_50 (by decide) (by omega) (by omega) (fun c50 => ?_) (fun c50 => absurd c50 (by omega))
      refine r_aload0 dX3_pours_115 ?_
      refine f_X3_13_X3 dX3_pours_116 m1.1 ?_
      refine r_bipush (v := nI 7) dX3_pours_119 (by decide) ?_
      refine r_dup2 dX3_pours_121 ?_
      refine r_laload (7) dX3_pours_122 m1.w rfl (by omega) (by rw [aL_at (by decide), rw_ac (by decide) (by decide), up1_s, fup_n (by decide), fup_n (by decide)]) ?_
      refine r_iload3 dX3_pours_123 ?_
      refine r_i2l dX3_pours_124 (i2l_nI (by omega)) ?_
      refine r_ladd dX3_pours_125 rfl ?_
      refine r_lastore (7) dX3_pours_126 (by omega) m1.w rfl (by omega) (by rw [aL_len]; omega) ?_
      refine r_iload3 dX3_pours_127 ?_
      exact r_ireturn dX3_pours_128 rfl rfl (⟨rfl, (m1.wa (q := 7) (by decide) (by decide) rfl).to rfl rfl (by rw [up1_s, up1_up1]; rfl), t1.tr (mT.up (k := 1) (by omega)), rfl⟩)
    | succ j ih =>
      intro r o1 o2 h1 ho1 ho2 hr m1 t1
      have b2 := prN_le (ρ := std (R 1) k 0 1) (i := i) (l := crm (R 1) k) (j := r)
      have b3 := w.o (k := i + r) (by omega)
      have x1 : (prN (std (R 1) k 0 1) i (crm (R 1) k) r).1 (22 + 2 * (i + r)) = R 1 (22 + 2 * (i + r)) := by rw [prN_out (by omega), s0 _ (by omega)]
      have x2 : (prN (std (R 1) k 0 1) i (crm (R 1) k) r).1 (23 + 2 * (i + r)) = R 1 (23 + 2 * (i + r)) := by rw [prN_out (by omega), s0 _ (by omega)]
      have y1 : (prN (std (R 1) k 0 1) i (crm (R 1) k) (r + 1)).1 = fup (prN (std (R 1) k 0 1) i (crm (R 1) k) r).1 (23 + 2 * (i + r)) (R 1 (23 + 2 * (i + r)) + min (prN (std (R 1) k 0 1) i (crm (R 1) k) r).2 (R 1 (22 + 2 * (i + r)) - R 1 (23 + 2 * (i + r)))) := by rw [← x1, ← x2]; rfl
      have y2 : (prN (std (R 1) k 0 1) i (crm (R 1) k) (r + 1)).2 = (prN (std (R 1) k 0 1) i (crm (R 1) k) r).2 - min (prN (std (R 1) k 0 1) i (crm (R 1) k) r).2 (R 1 (22 + 2 * (i + r)) - R 1 (23 + 2 * (i + r))) := by rw [← x1, ← x2]; rfl
      have tail : ∀ (q : Nat) (o2 : Option Value), q = min (prN (std (R 1) k 0 1) i (crm (R 1) k) r).2 (R 1 (22 + 2 * (i + r)) - R 1 (23 + 2 * (i + r))) → g_G K mX3_pours 5 0 0 (gI fun r h' n' => r = nI (poD (R 1) k i).2 ∧ mS a V (up1 R 1 (poD (R 1) k i).1) (up1 A 1 (fup (fup (fup (A 1) 6 (A 1 6 + lN (crm (R 1) k))) 9 (A 1 9 + erp (R 1) k)) 7 (A 1 7 + lN (poD (R 1) k i).2))) h' ∧ mT a h h' ∧ n' = n) gN 84 [some (.ref a), some (.int (nI k)), some (.int (nI i)), some (.int (nI (prN (std (R 1) k 0 1) i (crm (R 1) k) r).2)), some (.int (nI (i + r))), some (.int (nI (R 1 (22 + 2 * (i + r)) - R 1 (23 + 2 * (i + r))))), some (.int (nI q))] [] h1 n := by
        intro q o2 hq
        refine r_aload0 dX3_pours_84 ?_
        refine f_X3_13_X3 dX3_pours_85 m1.1 ?_
        refine r_bipush (v := nI 22) dX3_pours_88 (by decide) ?_
        refine r_iconst (v := nI 2) dX3_pours_90 (by decide) ?_
        refine r_iload4 dX3_pours_91 ?_
        refine r_imul dX3_pours_93 (by first | exact pk_mul _ _ | rfl) ?_
        refine r_iadd dX3_pours_94 (by first | exact nI_add _ _ | rfl) ?_
        refine r_iconst (v := nI 1) dX3_pours_95 (by decide) ?_
        refine r_iadd dX3_pours_96 (by first | exact nI_add _ _ | rfl) ?_
        refine r_dup2 dX3_pours_97 ?_
        refine r_laload ((22 + 2 * (i + r) + 1)) dX3_pours_98 m1.w rfl (by omega) (by rw [aL_at (by omega), rw_at (by omega), up1_s, show 22 + 2 * (i + r) + 1 = 23 + 2 * (i + r) by omega, x2]) ?_
        refine r_iload6 dX3_pours_99 ?_
        refine r_i2l dX3_pours_101 (i2l_nI (by omega)) ?_
        refine r_ladd dX3_pours_102 (show _ = lN (R 1 (23 + 2 * (i + r)) + q) from lN_add _ _) ?_
        refine r_lastore ((22 + 2 * (i + r) + 1)) dX3_pours_103 (by omega) m1.w rfl (by omega) (by rw [aL_len]; omega) ?_
        refine r_iload3 dX3_pours_104 ?_
        refine r_iload6 dX3_pours_105 ?_
        refine r_isub dX3_pours_107 (show _ = nI (prN (std (R 1) k 0 1) i (crm (R 1) k) (r + 1)).2 by rw [y2, ← hq]; exact pk_sub (by omega)) ?_
        refine r_istore3 dX3_pours_108 ?_
        refine r_iinc4 dX3_pours_109 (ii1 _) ?_
        refine r_goto (tgt := 43) dX3_pours_112 (by decide) ?_
        exact ih (r + 1) _ _ _ g_c1i g_c1i (by omega) ((m1.ww (q := 22 + 2 * (i + r) + 1) (by omega) rfl).to rfl (by rw [up1_s, up1_up1, y1, ← hq, show 22 + 2 * (i + r) + 1 = 23 + 2 * (i + r) by omega]) rfl) (t1.tr (mT.up (k := 1) (by omega)))
      refine r_iload4 dX3_pours_43 ?_
      refine r_aload0 dX3_pours_45 ?_
      refine r_iconst (v := nI 1) dX3_pours_46 (by decide) ?_
      refine r_callV (M' := mX3_at) _ dX3_pours_47 q3485 q3487 qs56 rfl (lw_all_tbl q3488) q138 (by exact pl_X3_at) gc_X3 (by first | exact m.1 | exact m0.1 | exact m1.1 | exact m2.1 | exact m3.1 | assumption | exact g_us | (rw [g_un (by omega)]; assumption) | (rw [g_un (by omega)]; exact g_us) | (rw [g_un (by omega), g_un (by omega)]; assumption) | (rw [g_un (by omega), g_un (by omega)]; exact g_us) | (rw [g_un (by omega), g_un (by omega), g_un (by omega)]; assumption) | ((repeat (rw [g_un (by omega)])); first | exact m.1 | exact m0.1 | exact m1.1 | exact m2.1 | exact m3.1 | exact g_us | assumption)) ((k_at m1 (by decide) (by decide))) (by omega) (Nat.le_of_ble_eq_true rfl) (by omega) (by omega) rfl (Nat.le_of_ble_eq_true rfl) rfl (kI fun r47 h47 n47 e47 => ?_) kN
      obtain ⟨rfl, rfl, rfl⟩ := e47
      rw [up1_s, prN_out (by omega), s0 _ (by omega)]
      refine r_icmp_geN (tgt := 115) dX3_pours_50 (by decide) (by omega) (by omega) (fun c50 => absurd c50 (by omega)) (fun c50 => ?_)
      refine r_aload0 dX3_pours_53 ?_
      refine r_iload4 dX3_pours_54 ?_
      refine r_iconst (v := nI 0) dX3_pours_56 (by decide) ?_
      refine r_callV (M' := mX3_bowl) _ dX3_pours_57 q3596 q3598 qs78 rfl (lw_all_tbl q3599) q138 (by exact pl_X3_bowl) gc_X3 (by first | exact m.1 | exact m0.1 | exact m1.1 | exact m2.1 | exact m3.1 | assumption | exact g_us | (rw [g_un (by omega)]; assumption) | (rw [g_un (by omega)]; exact g_us) | (rw [g_un (by omega), g_un (by omega)]; assumption) | (rw [g_un (by omega), g_un (by omega)]; exact g_us) | (rw [g_un (by omega), g_un (by omega), g_un (by omega)]; assumption) | ((repeat (rw [g_un (by omega)])); first | exact m.1 | exact m0.1 | exact m1.1 | exact m2.1 | exact m3.1 | exact g_us | assumption)) ((k_bowl m1 (by omega) (by decide))) (by omega) (Nat.le_of_ble_eq_true rfl) (by omega) (by omega) rfl (Nat.le_of_ble_eq_true rfl) rfl (kI fun r57 h57 n57 e57 => ?_) kN
      obtain ⟨rfl, rfl, rfl⟩ := e57
      rw [up1_s, show 22 + 2 * (i + r) + 0 = 22 + 2 * (i + r) by omega, x1]
      refine r_aload0 dX3_pours_60 ?_
      refine r_iload4 dX3_pours_61 ?_
      refine r_iconst (v := nI 1) dX3_pours_63 (by decide) ?_
      refine r_callV (M' := mX3_bowl) _ dX3_pours_64 q3596 q3598 qs78 rfl (lw_all_tbl q3599) q138 (by exact pl_X3_bowl) gc_X3 (by first | exact m.1 | exact m0.1 | exact m1.1 | exact m2.1 | exact m3.1 | assumption | exact g_us | (rw [g_un (by omega)]; assumption) | (rw [g_un (by omega)]; exact g_us) | (rw [g_un (by omega), g_un (by omega)]; assumption) | (rw [g_un (by omega), g_un (by omega)]; exact g_us) | (rw [g_un (by omega), g_un (by omega), g_un (by omega)]; assumption) | ((repeat (rw [g_un (by omega)])); first | exact m.1 | exact m0.1 | exact m1.1 | exact m2.1 | exact m3.1 | exact g_us | assumption)) ((k_bowl m1 (by omega) (by decide))) (by omega) (Nat.le_of_ble_eq_true rfl) (by omega) (by omega) rfl (Nat.le_of_ble_eq_true rfl) rfl (kI fun r64 h64 n64 e64 => ?_) kN
      obtain ⟨rfl, rfl, rfl⟩ := e64
      rw [up1_s, show 22 + 2 * (i + r) + 1 = 23 + 2 * (i + r) by omega, x2]
      refine r_isub dX3_pours_67 (by first | exact pk_sub (by omega) | rfl) ?_
      refine r_istore5 dX3_pours_68 ?_
      refine r_iload3 dX3_pours_70 ?_
      refine r_iload5 dX3_pours_71 ?_
      refine r_icmp_geN (tgt := 80) dX3_pours_73 (by decide) (by omega) (by omega) (fun c73 => ?_) (fun c73 => ?_)
      · refine r_iload5 dX3_pours_80 ?_
        refine r_istore6 dX3_pours_82 ?_
        exact tail _ o2 (by omega)
      · refine r_iload3 dX3_pours_76 ?_
        refine r_goto (tgt := 82) dX3_pours_77 (by decide) ?_
        refine r_istore6 dX3_pours_82 ?_
        exact tail _ o2 (by omega)
  refine r_aload0 dX3_pours_0 ?_
  refine r_iload1 dX3_pours_1 ?_
  refine r_callV (M' := mX3_crumbs) _ dX3_pours_2 q3631 q3633 qs84 rfl (lw_all_tbl q3634) q138 (by exact pl_X3_crumbs) gc_X3 (by first | exact m.1 | exact m0.1 | exact m1.1 | exact m2.1 | exact m3.1 | assumption | exact g_us | (rw [g_un (by omega)]; assumption) | (rw [g_un (by omega)]; exact g_us) | (rw [g_un (by omega), g_un (by omega)]; assumption) | (rw [g_un (by omega), g_un (by omega)]; exact g_us) | (rw [g_un (by omega), g_un (by omega), g_un (by omega)]; assumption) | ((repeat (rw [g_un (by omega)])); first | exact m.1 | exact m0.1 | exact m1.1 | exact m2.1 | exact m3.1 | exact g_us | assumption)) ((k_crumbs m w hk)) (by omega) (Nat.le_of_ble_eq_true rfl) (by omega) (by omega) rfl (Nat.le_of_ble_eq_true rfl) rfl (kI fun r2 h2 n2 e2 => ?_) kN
  obtain ⟨rfl, rfl, rfl⟩ := e2
  refine r_istore3 dX3_pours_5 ?_
  refine r_aload0 dX3_pours_6 ?_
  refine f_X3_13_X3 dX3_pours_7 m.1 ?_
  refine r_bipush (v := nI 6) dX3_pours_10 (by decide) ?_
  refine r_dup2 dX3_pours_12 ?_
  refine r_laload (6) dX3_pours_13 m.w rfl (by omega) (by rw [aL_at (by decide), rw_ac (by decide) (by decide)]) ?_
  refine r_iload3 dX3_pours_14 ?_
  refine r_i2l dX3_pours_15 (i2l_nI (by omega)) ?_
  refine r_ladd dX3_pours_16 rfl ?_
  refine r_lastore (6) dX3_pours_17 (by omega) m.w rfl (by omega) (by rw [aL_len]; omega) ?_
  have m1 := m.wa (q := 6) (x := A 1 6 + lN (crm (R 1) k)) (by decide) (by decide) rfl
  refine r_aload0 dX3_pours_18 ?_
  refine f_X3_13_X3 dX3_pours_19 m1.1 ?_
  refine r_bipush (v := nI 9) dX3_pours_22 (by decide) ?_
  refine r_dup2 dX3_pours_24 ?_
  refine r_laload (9) dX3_pours_25 m1.w rfl (by omega) (by rw [aL_at (by decide), rw_ac (by decide) (by decide), up1_s, fup_n (by decide)]) ?_
  refine r_aload0 dX3_pours_26 ?_
  refine r_iload1 dX3_pours_27 ?_
  refine r_callV (M' := mX3_error) _ dX3_pours_28 q3639 q3641 qs86 rfl (lw_all_tbl q3642) q138 (by exact pl_X3_error) gc_X3 (by first | exact m.1 | exact m0.1 | exact m1.1 | exact m2.1 | exact m3.1 | assumption | exact g_us | (rw [g_un (by omega)]; assumption) | (rw [g_un (by omega)]; exact g_us) | (rw [g_un (by omega), g_un (by omega)]; assumption) | (rw [g_un (by omega), g_un (by omega)]; exact g_us) | (rw [g_un (by omega), g_un (by omega), g_un (by omega)]; assumption) | ((repeat (rw [g_un (by omega)])); first | exact m.1 | exact m0.1 | exact m1.1 | exact m2.1 | exact m3.1 | exact g_us | assumption)) ((k_error m1 w hk)) (by omega) (Nat.le_of_ble_eq_true rfl) (by omega) (by omega) rfl (Nat.le_of_ble_eq_true rfl) rfl (kJ fun r28 h28 n28 e28 => ?_) kN
  obtain ⟨rfl, rfl, rfl⟩ := e28
  refine r_ladd dX3_pours_31 rfl ?_
  refine r_lastore (9) dX3_pours_32 (by omega) m1.w rfl (by omega) (by rw [aL_len]; omega) ?_
  have m2 := m1.wa (q := 9) (x := A 1 9 + erp (R 1) k) (by decide) (by decide) rfl
  rw [up1_s, up1_up1] at m2
  refine r_aload0 dX3_pours_33 ?_
  refine r_iload1 dX3_pours_34 ?_
  refine r_iconst (v := nI 0) dX3_pours_35 (by decide) ?_
  refine r_iconst (v := nI 1) dX3_pours_36 (by decide) ?_
  refine r_callV (M' := mX3_sets) _ dX3_pours_37 q3509 q3511 qs62 rfl (lw_all_tbl q3512) q138 (by exact pl_X3_sets) gc_X3 (by first | exact m.1 | exact m0.1 | exact m1.1 | exact m2.1 | exact m3.1 | assumption | exact g_us | (rw [g_un (by omega)]; assumption) | (rw [g_un (by omega)]; exact g_us) | (rw [g_un (by omega), g_un (by omega)]; assumption) | (rw [g_un (by omega), g_un (by omega)]; exact g_us) | (rw [g_un (by omega), g_un (by omega), g_un (by omega)]; assumption) | ((repeat (rw [g_un (by omega)])); first | exact m.1 | exact m0.1 | exact m1.1 | exact m2.1 | exact m3.1 | exact g_us | assumption)) ((k_sets hb m2 (by omega) (by decide) (by decide) (by decide))) (by omega) (Nat.le_of_ble_eq_true rfl) (by omega) (by omega) rfl (Nat.le_of_ble_eq_true rfl) rfl (kV fun h37 n37 e37 => ?_) kN
  obtain ⟨m3, t3, rfl⟩ := e37
  refine r_iload2 dX3_pours_40 ?_
  refine r_istore4 dX3_pours_41 ?_
  exact loop (R 1 1 - i) 0 _ _ _ g_c1n g_c1n (by omega) m3 (((mT.up (k := 1) (by omega)).tr (mT.up (k := 1) (by omega))).tr t3)
end
