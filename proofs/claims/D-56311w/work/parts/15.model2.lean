/-! the reference reads its row -/
set_option maxRecDepth 100000
section
variable {K : g_K} {a n u : Nat} {V : Nat → Nat → Int32} {R : Nat → Nat → Nat} {A : Nat → Nat → Int64} {h : g_P}
theorem k_isDough {p : Int32} (m : mS a V R A h) (w : wB u (R 1)) : g_Met K mX3_isDough 2 0 0 [.ref a, .int p] h n (gI fun r h' n' => r = nB (ix p (R 1 0)) ∧ h' = h ∧ n' = n) gN := by
  have b := w.b
  refine g_Met.of (M := mX3_isDough) (L := [some (.ref a), some (.int p)]) (by decide +kernel) (Nat.le_of_ble_eq_true rfl) rfl ?_
  refine r_iload1 dX3_isDough_0 ?_
  refine r_iconst (v := nI 0) dX3_isDough_1 (by decide) ?_
  refine r_aload0 dX3_isDough_2 ?_
  refine r_iconst (v := nI 0) dX3_isDough_3 (by decide) ?_
  refine r_callV (M' := mX3_at) _ dX3_isDough_4 q3485 q3487 qs56 rfl (lw_all_tbl q3488) q138 (by exact pl_X3_at) gc_X3 (by first | exact m.1 | exact m0.1 | exact m1.1 | exact m2.1 | exact m3.1 | assumption | exact g_us | (rw [g_un (by omega)]; assumption) | (rw [g_un (by omega)]; exact g_us) | (rw [g_un (by omega), g_un (by omega)]; assumption) | (rw [g_un (by omega), g_un (by omega)]; exact g_us) | (rw [g_un (by omega), g_un (by omega), g_un (by omega)]; assumption) | ((repeat (rw [g_un (by omega)])); first | exact m.1 | exact m0.1 | exact m1.1 | exact m2.1 | exact m3.1 | exact g_us | assumption)) ((k_at m (by decide) (by decide))) (by omega) (Nat.le_of_ble_eq_true rfl) (by omega) (by omega) rfl (Nat.le_of_ble_eq_true rfl) rfl (kI fun r4 h4 n4 e4 => ?_) kN
  obtain ⟨rfl, rfl, rfl⟩ := e4
  refine r_iconst (v := nI 1) dX3_isDough_7 (by decide) ?_
  refine r_isub dX3_isDough_8 rfl ?_
  refine r_callS (M' := mX3_isBetween) _ dX3_isDough_9 q3482 q3483 rfl (lw_all_tbl q3484) q138 (by exact pl_X3_isBetween)  ((k_ix (by omega) rfl)) (by omega) (Nat.le_of_ble_eq_true rfl) (by omega) (by omega) rfl (Nat.le_of_ble_eq_true rfl) rfl (kI fun r9 h9 n9 e9 => ?_) kN
  obtain ⟨rfl, rfl, rfl⟩ := e9
  exact r_ireturn dX3_isDough_12 rfl (by first | exact nB_nar | rfl) (⟨rfl, rfl, rfl⟩)
theorem k_isBowl {p : Int32} (m : mS a V R A h) (w : wB u (R 1)) : g_Met K mX3_isBowl 2 0 0 [.ref a, .int p] h n (gI fun r h' n' => r = nB (ix p (R 1 1)) ∧ h' = h ∧ n' = n) gN := by
  have b := w.b
  refine g_Met.of (M := mX3_isBowl) (L := [some (.ref a), some (.int p)]) (by decide +kernel) (Nat.le_of_ble_eq_true rfl) rfl ?_
  refine r_iload1 dX3_isBowl_0 ?_
  refine r_iconst (v := nI 0) dX3_isBowl_1 (by decide) ?_
  refine r_aload0 dX3_isBowl_2 ?_
  refine r_iconst (v := nI 1) dX3_isBowl_3 (by decide) ?_
  refine r_callV (M' := mX3_at) _ dX3_isBowl_4 q3485 q3487 qs56 rfl (lw_all_tbl q3488) q138 (by exact pl_X3_at) gc_X3 (by first | exact m.1 | exact m0.1 | exact m1.1 | exact m2.1 | exact m3.1 | assumption | exact g_us | (rw [g_un (by omega)]; assumption) | (rw [g_un (by omega)]; exact g_us) | (rw [g_un (by omega), g_un (by omega)]; assumption) | (rw [g_un (by omega), g_un (by omega)]; exact g_us) | (rw [g_un (by omega), g_un (by omega), g_un (by omega)]; assumption) | ((repeat (rw [g_un (by omega)])); first | exact m.1 | exact m0.1 | exact m1.1 | exact m2.1 | exact m3.1 | exact g_us | assumption)) ((k_at m (by decide) (by decide))) (by omega) (Nat.le_of_ble_eq_true rfl) (by omega) (by omega) rfl (Nat.le_of_ble_eq_true rfl) rfl (kI fun r4 h4 n4 e4 => ?_) kN
  obtain ⟨rfl, rfl, rfl⟩ := e4
  refine r_iconst (v := nI 1) dX3_isBowl_7 (by decide) ?_
  refine r_isub dX3_isBowl_8 rfl ?_
  refine r_callS (M' := mX3_isBetween) _ dX3_isBowl_9 q3482 q3483 rfl (lw_all_tbl q3484) q138 (by exact pl_X3_isBetween)  ((k_ix (by omega) rfl)) (by omega) (Nat.le_of_ble_eq_true rfl) (by omega) (by omega) rfl (Nat.le_of_ble_eq_true rfl) rfl (kI fun r9 h9 n9 e9 => ?_) kN
  obtain ⟨rfl, rfl, rfl⟩ := e9
  exact r_ireturn dX3_isBowl_12 rfl (by first | exact nB_nar | rfl) (⟨rfl, rfl, rfl⟩)
theorem k_isLoaf {p : Int32} (m : mS a V R A h) (w : wB u (R 1)) : g_Met K mX3_isLoaf 2 0 0 [.ref a, .int p] h n (gI fun r h' n' => r = nB (ix p (R 1 2)) ∧ h' = h ∧ n' = n) gN := by
  have b := w.b
  refine g_Met.of (M := mX3_isLoaf) (L := [some (.ref a), some (.int p)]) (by decide +kernel) (Nat.le_of_ble_eq_true rfl) rfl ?_
  refine r_iload1 dX3_isLoaf_0 ?_
  refine r_iconst (v := nI 0) dX3_isLoaf_1 (by decide) ?_
  refine r_aload0 dX3_isLoaf_2 ?_
  refine r_iconst (v := nI 2) dX3_isLoaf_3 (by decide) ?_
  refine r_callV (M' := mX3_at) _ dX3_isLoaf_4 q3485 q3487 qs56 rfl (lw_all_tbl q3488) q138 (by exact pl_X3_at) gc_X3 (by first | exact m.1 | exact m0.1 | exact m1.1 | exact m2.1 | exact m3.1 | assumption | exact g_us | (rw [g_un (by omega)]; assumption) | (rw [g_un (by omega)]; exact g_us) | (rw [g_un (by omega), g_un (by omega)]; assumption) | (rw [g_un (by omega), g_un (by omega)]; exact g_us) | (rw [g_un (by omega), g_un (by omega), g_un (by omega)]; assumption) | ((repeat (rw [g_un (by omega)])); first | exact m.1 | exact m0.1 | exact m1.1 | exact m2.1 | exact m3.1 | exact g_us | assumption)) ((k_at m (by decide) (by decide))) (by omega) (Nat.le_of_ble_eq_true rfl) (by omega) (by omega) rfl (Nat.le_of_ble_eq_true rfl) rfl (kI fun r4 h4 n4 e4 => ?_) kN
  obtain ⟨rfl, rfl, rfl⟩ := e4
  refine r_iconst (v := nI 1) dX3_isLoaf_7 (by decide) ?_
  refine r_isub dX3_isLoaf_8 rfl ?_
  refine r_callS (M' := mX3_isBetween) _ dX3_isLoaf_9 q3482 q3483 rfl (lw_all_tbl q3484) q138 (by exact pl_X3_isBetween)  ((k_ix (by omega) rfl)) (by omega) (Nat.le_of_ble_eq_true rfl) (by omega) (by omega) rfl (Nat.le_of_ble_eq_true rfl) rfl (kI fun r9 h9 n9 e9 => ?_) kN
  obtain ⟨rfl, rfl, rfl⟩ := e9
  exact r_ireturn dX3_isLoaf_12 rfl (by first | exact nB_nar | rfl) (⟨rfl, rfl, rfl⟩)
theorem k_dough {k j : Nat} (m : mS a V R A h) (hk : k < 6) (hj : j < 2) : g_Met K mX3_dough 2 0 0 [.ref a, .int (nI k), .int (nI j)] h n (gI fun r h' n' => r = nI (R 1 (10 + 2 * k + j)) ∧ h' = h ∧ n' = n) gN := by
  refine g_Met.of (M := mX3_dough) (L := [some (.ref a), some (.int (nI k)), some (.int (nI j))]) (by decide +kernel) (Nat.le_of_ble_eq_true rfl) rfl ?_
  refine r_aload0 dX3_dough_0 ?_
  refine r_bipush (v := nI 10) dX3_dough_1 (by decide) ?_
  refine r_iconst (v := nI 2) dX3_dough_3 (by decide) ?_
  refine r_iload1 dX3_dough_4 ?_
  refine r_imul dX3_dough_5 (by first | exact pk_mul _ _ | rfl) ?_
  refine r_iadd dX3_dough_6 (by first | exact nI_add _ _ | rfl) ?_
  refine r_iload2 dX3_dough_7 ?_
  refine r_iadd dX3_dough_8 (by first | exact nI_add _ _ | rfl) ?_
  refine r_callV (M' := mX3_at) _ dX3_dough_9 q3485 q3487 qs56 rfl (lw_all_tbl q3488) q138 (by exact pl_X3_at) gc_X3 (by first | exact m.1 | exact m0.1 | exact m1.1 | exact m2.1 | exact m3.1 | assumption | exact g_us | (rw [g_un (by omega)]; assumption) | (rw [g_un (by omega)]; exact g_us) | (rw [g_un (by omega), g_un (by omega)]; assumption) | (rw [g_un (by omega), g_un (by omega)]; exact g_us) | (rw [g_un (by omega), g_un (by omega), g_un (by omega)]; assumption) | ((repeat (rw [g_un (by omega)])); first | exact m.1 | exact m0.1 | exact m1.1 | exact m2.1 | exact m3.1 | exact g_us | assumption)) ((k_at m (by omega) (by omega))) (by omega) (Nat.le_of_ble_eq_true rfl) (by omega) (by omega) rfl (Nat.le_of_ble_eq_true rfl) rfl (kI fun r9 h9 n9 e9 => ?_) kN
  obtain ⟨rfl, rfl, rfl⟩ := e9
  exact r_ireturn dX3_dough_12 rfl rfl (⟨rfl, rfl, rfl⟩)
theorem k_bowl {k j : Nat} (m : mS a V R A h) (hk : k < 5) (hj : j < 2) : g_Met K mX3_bowl 2 0 0 [.ref a, .int (nI k), .int (nI j)] h n (gI fun r h' n' => r = nI (R 1 (22 + 2 * k + j)) ∧ h' = h ∧ n' = n) gN := by
  refine g_Met.of (M := mX3_bowl) (L := [some (.ref a), some (.int (nI k)), some (.int (nI j))]) (by decide +kernel) (Nat.le_of_ble_eq_true rfl) rfl ?_
  refine r_aload0 dX3_bowl_0 ?_
  refine r_bipush (v := nI 22) dX3_bowl_1 (by decide) ?_
  refine r_iconst (v := nI 2) dX3_bowl_3 (by decide) ?_
  refine r_iload1 dX3_bowl_4 ?_
  refine r_imul dX3_bowl_5 (by first | exact pk_mul _ _ | rfl) ?_
  refine r_iadd dX3_bowl_6 (by first | exact nI_add _ _ | rfl) ?_
  refine r_iload2 dX3_bowl_7 ?_
  refine r_iadd dX3_bowl_8 (by first | exact nI_add _ _ | rfl) ?_
  refine r_callV (M' := mX3_at) _ dX3_bowl_9 q3485 q3487 qs56 rfl (lw_all_tbl q3488) q138 (by exact pl_X3_at) gc_X3 (by first | exact m.1 | exact m0.1 | exact m1.1 | exact m2.1 | exact m3.1 | assumption | exact g_us | (rw [g_un (by omega)]; assumption) | (rw [g_un (by omega)]; exact g_us) | (rw [g_un (by omega), g_un (by omega)]; assumption) | (rw [g_un (by omega), g_un (by omega)]; exact g_us) | (rw [g_un (by omega), g_un (by omega), g_un (by omega)]; assumption) | ((repeat (rw [g_un (by omega)])); first | exact m.1 | exact m0.1 | exact m1.1 | exact m2.1 | exact m3.1 | exact g_us | assumption)) ((k_at m (by omega) (by omega))) (by omega) (Nat.le_of_ble_eq_true rfl) (by omega) (by omega) rfl (Nat.le_of_ble_eq_true rfl) rfl (kI fun r9 h9 n9 e9 => ?_) kN
  obtain ⟨rfl, rfl, rfl⟩ := e9
  exact r_ireturn dX3_bowl_12 rfl rfl (⟨rfl, rfl, rfl⟩)
theorem k_loaf {k j : Nat} (m : mS a V R A h) (hk : k < 8) (hj : j < 3) : g_Met K mX3_loaf 2 0 0 [.ref a, .int (nI k), .int (nI j)] h n (gI fun r h' n' => r = nI (R 1 (32 + 3 * k + j)) ∧ h' = h ∧ n' = n) gN := by
  refine g_Met.of (M := mX3_loaf) (L := [some (.ref a), some (.int (nI k)), some (.int (nI j))]) (by decide +kernel) (Nat.le_of_ble_eq_true rfl) rfl ?_
  refine r_aload0 dX3_loaf_0 ?_
  refine r_bipush (v := nI 32) dX3_loaf_1 (by decide) ?_
  refine r_iconst (v := nI 3) dX3_loaf_3 (by decide) ?_
  refine r_iload1 dX3_loaf_4 ?_
  refine r_imul dX3_loaf_5 (by first | exact pk_mul _ _ | rfl) ?_
  refine r_iadd dX3_loaf_6 (by first | exact nI_add _ _ | rfl) ?_
  refine r_iload2 dX3_loaf_7 ?_
  refine r_iadd dX3_loaf_8 (by first | exact nI_add _ _ | rfl) ?_
  refine r_callV (M' := mX3_at) _ dX3_loaf_9 q3485 q3487 qs56 rfl (lw_all_tbl q3488) q138 (by exact pl_X3_at) gc_X3 (by first | exact m.1 | exact m0.1 | exact m1.1 | exact m2.1 | exact m3.1 | assumption | exact g_us | (rw [g_un (by omega)]; assumption) | (rw [g_un (by omega)]; exact g_us) | (rw [g_un (by omega), g_un (by omega)]; assumption) | (rw [g_un (by omega), g_un (by omega)]; exact g_us) | (rw [g_un (by omega), g_un (by omega), g_un (by omega)]; assumption) | ((repeat (rw [g_un (by omega)])); first | exact m.1 | exact m0.1 | exact m1.1 | exact m2.1 | exact m3.1 | exact g_us | assumption)) ((k_at m (by omega) (by omega))) (by omega) (Nat.le_of_ble_eq_true rfl) (by omega) (by omega) rfl (Nat.le_of_ble_eq_true rfl) rfl (kI fun r9 h9 n9 e9 => ?_) kN
  obtain ⟨rfl, rfl, rfl⟩ := e9
  exact r_ireturn dX3_loaf_12 rfl rfl (⟨rfl, rfl, rfl⟩)
/-! sums over the bowls and the loaves -/
theorem k_contents (m : mS a V R A h) (w : wB u (R 1)) : g_Met K mX3_contents 3 0 0 [.ref a] h n (gI fun r h' n' => r = nI (cts (R 1)) ∧ h' = h ∧ n' = n) gN := by
  have b := w.b
  refine g_Met.of (M := mX3_contents) (L := [some (.ref a), none, none]) (by decide +kernel) (Nat.le_of_ble_eq_true rfl) rfl ?_
  have loop : ∀ (j k : Nat), k + j = R 1 1 → g_G K mX3_contents 3 0 0 (gI fun r h' n' => r = nI (cts (R 1)) ∧ h' = h ∧ n' = n) gN 4 [some (.ref a), some (.int (nI (sm (fun k => R 1 (23 + 2 * k)) k))), some (.int (nI k))] [] h n := by
    intro j
    induction j with
    | zero =>
      intro k hk
      refine r_iload2 dX3_contents_4 ?_
      refine r_aload0 dX3_contents_5 ?_
      refine r_iconst (v := nI 1) dX3_contents_6 (by decide) ?_
      refine r_callV (M' := mX3_at) _ dX3_contents_7 q3485 q3487 qs56 rfl (lw_all_tbl q3488) q138 (by exact pl_X3_at) gc_X3 (by first | exact m.1 | exact m0.1 | exact m1.1 | exact m2.1 | exact m3.1 | assumption | exact g_us | (rw [g_un (by omega)]; assumption) | (rw [g_un (by omega)]; exact g_us) | (rw [g_un (by omega), g_un (by omega)]; assumption) | (rw [g_un (by omega), g_un (by omega)]; exact g_us) | (rw [g_un (by omega), g_un (by omega), g_un (by omega)]; assumption) | ((repeat (rw [g_un (by omega)])); first | exact m.1 | exact m0.1 | exact m1.1 | exact m2.1 | exact m3.1 | exact g_us | assumption)) ((k_at m (by decide) (by decide))) (by omega) (Nat.le_of_ble_eq_true rfl) (by omega) (by omega) rfl (Nat.le_of_ble_eq_true rfl) rfl (kI fun r7 h7 n7 e7 => ?_) kN
      obtain ⟨rfl, rfl, rfl⟩ := e7
      refine r_icmp_geN (tgt := 28) dX3_contents_10 (by decide) (by omega) (by omega) (fun c10 => ?_) (fun c10 => absurd c10 (by omega))
      refine r_iload1 dX3_contents_28 ?_
      exact r_ireturn dX3_contents_29 rfl rfl (⟨by rw [show k = R 1 1 by omega]; rfl, rfl, rfl⟩)
    | succ j ih =>
      intro k hk
      refine r_iload2 dX3_contents_4 ?_
      refine r_aload0 dX3_contents_5 ?_
      refine r_iconst (v := nI 1) dX3_contents_6 (by decide) ?_
      refine r_callV (M' := mX3_at) _ dX3_contents_7 q3485 q3487 qs56 rfl (lw_all_tbl q3488) q138 (by exact pl_X3_at) gc_X3 (by first | exact m.1 | exact m0.1 | exact m1.1 | exact m2.1 | exact m3.1 | assumption | exact g_us | (rw [g_un (by omega)]; assumption) | (rw [g_un (by omega)]; exact g_us) | (rw [g_un (by omega), g_un (by omega)]; assumption) | (rw [g_un (by omega), g_un (by omega)]; exact g_us) | (rw [g_un (by omega), g_un (by omega), g_un (by omega)]; assumption) | ((repeat (rw [g_un (by omega)])); first | exact m.1 | exact m0.1 | exact m1.1 | exact m2.1 | exact m3.1 | exact g_us | assumption)) ((k_at m (by decide) (by decide))) (by omega) (Nat.le_of_ble_eq_true rfl) (by omega) (by omega) rfl (Nat.le_of_ble_eq_true rfl) rfl (kI fun r7 h7 n7 e7 => ?_) kN
      obtain ⟨rfl, rfl, rfl⟩ := e7
      refine r_icmp_geN (tgt := 28) dX3_contents_10 (by decide) (by omega) (by omega) (fun c10 => absurd c10 (by omega)) (fun c10 => ?_)
      refine r_iload1 dX3_contents_13 ?_
      refine r_aload0 dX3_contents_14 ?_
      refine r_iload2 dX3_contents_15 ?_
      refine r_iconst (v := nI 1) dX3_contents_16 (by decide) ?_
      refine r_callV (M' := mX3_bowl) _ dX3_contents_17 q3596 q3598 qs78 rfl (lw_all_tbl q3599) q138 (by exact pl_X3_bowl) gc_X3 (by first | exact m.1 | exact m0.1 | exact m1.1 | exact m2.1 | exact m3.1 | assumption | exact g_us | (rw [g_un (by omega)]; assumption) | (rw [g_un (by omega)]; exact g_us) | (rw [g_un (by omega), g_un (by omega)]; assumption) | (rw [g_un (by omega), g_un (by omega)]; exact g_us) | (rw [g_un (by omega), g_un (by omega), g_un (by omega)]; assumption) | ((repeat (rw [g_un (by omega)])); first | exact m.1 | exact m0.1 | exact m1.1 | exact m2.1 | exact m3.1 | exact g_us | assumption)) ((k_bowl m (by omega) (by decide))) (by omega) (Nat.le_of_ble_eq_true rfl) (by omega) (by omega) rfl (Nat.le_of_ble_eq_true rfl) rfl (kI fun r17 h17 n17 e17 => ?_) kN
      obtain ⟨rfl, rfl, rfl⟩ := e17
      rw [show 22 + 2 * k + 1 = 23 + 2 * k by omega]
      refine r_iadd dX3_contents_20 (by first | exact nI_add _ _ | rfl) ?_
      refine r_istore1 dX3_contents_21 ?_
      refine r_iinc2 dX3_contents_22 (ii1 _) ?_
      refine r_goto (tgt := 4) dX3_contents_25 (by decide) ?_
      exact ih (k + 1) (by omega)
  refine r_iconst (v := nI 0) dX3_contents_0 (by decide) ?_
  refine r_istore1 dX3_contents_1 ?_
  refine r_iconst (v := nI 0) dX3_contents_2 (by decide) ?_
  refine r_istore2 dX3_contents_3 ?_
  exact loop (R 1 1) 0 (by omega)
theorem k_inLoaves (m : mS a V R A h) (w : wB u (R 1)) : g_Met K mX3_inLoaves 3 0 0 [.ref a] h n (gI fun r h' n' => r = nI (ilv (R 1)) ∧ h' = h ∧ n' = n) gN := by
  have b := w.b
  refine g_Met.of (M := mX3_inLoaves) (L := [some (.ref a), none, none]) (by decide +kernel) (Nat.le_of_ble_eq_true rfl) rfl ?_
  have loop : ∀ (j k : Nat), k + j = R 1 2 → g_G K mX3_inLoaves 3 0 0 (gI fun r h' n' => r = nI (ilv (R 1)) ∧ h' = h ∧ n' = n) gN 4 [some (.ref a), some (.int (nI (sm (fun k => R 1 (34 + 3 * k)) k))), some (.int (nI k))] [] h n := by
    intro j
    induction j with
    | zero =>
      intro k hk
      refine r_iload2 dX3_inLoaves_4 ?_
      refine r_aload0 dX3_inLoaves_5 ?_
      refine r_iconst (v := nI 2) dX3_inLoaves_6 (by decide) ?_
      refine r_callV (M' := mX3_at) _ dX3_inLoaves_7 q3485 q3487 qs56 rfl (lw_all_tbl q3488) q138 (by exact pl_X3_at) gc_X3 (by first | exact m.1 | exact m0.1 | exact m1.1 | exact m2.1 | exact m3.1 | assumption | exact g_us | (rw [g_un (by omega)]; assumption) | (rw [g_un (by omega)]; exact g_us) | (rw [g_un (by omega), g_un (by omega)]; assumption) | (rw [g_un (by omega), g_un (by omega)]; exact g_us) | (rw [g_un (by omega), g_un (by omega), g_un (by omega)]; assumption) | ((repeat (rw [g_un (by omega)])); first | exact m.1 | exact m0.1 | exact m1.1 | exact m2.1 | exact m3.1 | exact g_us | assumption)) ((k_at m (by decide) (by decide))) (by omega) (Nat.le_of_ble_eq_true rfl) (by omega) (by omega) rfl (Nat.le_of_ble_eq_true rfl) rfl (kI fun r7 h7 n7 e7 => ?_) kN
      obtain ⟨rfl, rfl, rfl⟩ := e7
      refine r_icmp_geN (tgt := 28) dX3_inLoaves_10 (by decide) (by omega) (by omega) (fun c10 => ?_) (fun c10 => absurd c10 (by omega))
      refine r_iload1 dX3_inLoaves_28 ?_
      exact r_ireturn dX3_inLoaves_29 rfl rfl (⟨by rw [show k = R 1 2 by omega]; rfl, rfl, rfl⟩)
    | succ j ih =>
      intro k hk
      refine r_iload2 dX3_inLoaves_4 ?_
      refine r_aload0 dX3_inLoaves_5 ?_
      refine r_iconst (v := nI 2) dX3_inLoaves_6 (by decide) ?_
      refine r_callV (M' := mX3_at) _ dX3_inLoaves_7 q3485 q3487 qs56 rfl (lw_all_tbl q3488) q138 (by exact pl_X3_at) gc_X3 (by first | exact m.1 | exact m0.1 | exact m1.1 | exact m2.1 | exact m3.1 | assumption | exact g_us | (rw [g_un (by omega)]; assumption) | (rw [g_un (by omega)]; exact g_us) | (rw [g_un (by omega), g_un (by omega)]; assumption) | (rw [g_un (by omega), g_un (by omega)]; exact g_us) | (rw [g_un (by omega), g_un (by omega), g_un (by omega)]; assumption) | ((repeat (rw [g_un (by omega)])); first | exact m.1 | exact m0.1 | exact m1.1 | exact m2.1 | exact m3.1 | exact g_us | assumption)) ((k_at m (by decide) (by decide))) (by omega) (Nat.le_of_ble_eq_true rfl) (by omega) (by omega) rfl (Nat.le_of_ble_eq_true rfl) rfl (kI fun r7 h7 n7 e7 => ?_) kN
      obtain ⟨rfl, rfl, rfl⟩ := e7
      refine r_icmp_geN (tgt := 28) dX3_inLoaves_10 (by decide) (by omega) (by omega) (fun c10 => absurd c10 (by omega)) (fun c10 => ?_)
      refine r_iload1 dX3_inLoaves_13 ?_
      refine r_aload0 dX3_inLoaves_14 ?_
      refine r_iload2 dX3_inLoaves_15 ?_
      refine r_iconst (v := nI 2) dX3_inLoaves_16 (by decide) ?_
      refine r_callV (M' := mX3_loaf) _ dX3_inLoaves_17 q3580 q3582 qs75 rfl (lw_all_tbl q3583) q138 (by exact pl_X3_loaf) gc_X3 (by first | exact m.1 | exact m0.1 | exact m1.1 | exact m2.1 | exact m3.1 | assumption | exact g_us | (rw [g_un (by omega)]; assumption) | (rw [g_un (by omega)]; exact g_us) | (rw [g_un (by omega), g_un (by omega)]; assumption) | (rw [g_un (by omega), g_un (by omega)]; exact g_us) | (rw [g_un (by omega), g_un (by omega), g_un (by omega)]; assumption) | ((repeat (rw [g_un (by omega)])); first | exact m.1 | exact m0.1 | exact m1.1 | exact m2.1 | exact m3.1 | exact g_us | assumption)) ((k_loaf m (by omega) (by decide))) (by omega) (Nat.le_of_ble_eq_true rfl) (by omega) (by omega) rfl (Nat.le_of_ble_eq_true rfl) rfl (kI fun r17 h17 n17 e17 => ?_) kN
      obtain ⟨rfl, rfl, rfl⟩ := e17
      rw [show 32 + 3 * k + 2 = 34 + 3 * k by omega]
      refine r_iadd dX3_inLoaves_20 (by first | exact nI_add _ _ | rfl) ?_
      refine r_istore1 dX3_inLoaves_21 ?_
      refine r_iinc2 dX3_inLoaves_22 (ii1 _) ?_
      refine r_goto (tgt := 4) dX3_inLoaves_25 (by decide) ?_
      exact ih (k + 1) (by omega)
  refine r_iconst (v := nI 0) dX3_inLoaves_0 (by decide) ?_
  refine r_istore1 dX3_inLoaves_1 ?_
  refine r_iconst (v := nI 0) dX3_inLoaves_2 (by decide) ?_
  refine r_istore2 dX3_inLoaves_3 ?_
  exact loop (R 1 2) 0 (by omega)
theorem k_weights (m : mS a V R A h) (w : wB u (R 1)) : g_Met K mX3_weights 3 0 0 [.ref a] h n (gI fun r h' n' => r = nI (wts (R 1)) ∧ h' = h ∧ n' = n) gN := by
  have b := w.b
  refine g_Met.of (M := mX3_weights) (L := [some (.ref a), none, none]) (by decide +kernel) (Nat.le_of_ble_eq_true rfl) rfl ?_
  have loop : ∀ (j k : Nat), k + j = R 1 2 → g_G K mX3_weights 3 0 0 (gI fun r h' n' => r = nI (wts (R 1)) ∧ h' = h ∧ n' = n) gN 4 [some (.ref a), some (.int (nI (sm (fun k => R 1 (32 + 3 * k)) k))), some (.int (nI k))] [] h n := by
    intro j
    induction j with
    | zero =>
      intro k hk
      refine r_iload2 dX3_weights_4 ?_
      refine r_aload0 dX3_weights_5 ?_
      refine r_iconst (v := nI 2) dX3_weights_6 (by decide) ?_
      refine r_callV (M' := mX3_at) _ dX3_weights_7 q3485 q3487 qs56 rfl (lw_all_tbl q3488) q138 (by exact pl_X3_at) gc_X3 (by first | exact m.1 | exact m0.1 | exact m1.1 | exact m2.1 | exact m3.1 | assumption | exact g_us | (rw [g_un (by omega)]; assumption) | (rw [g_un (by omega)]; exact g_us) | (rw [g_un (by omega), g_un (by omega)]; assumption) | (rw [g_un (by omega), g_un (by omega)]; exact g_us) | (rw [g_un (by omega), g_un (by omega), g_un (by omega)]; assumption) | ((repeat (rw [g_un (by omega)])); first | exact m.1 | exact m0.1 | exact m1.1 | exact m2.1 | exact m3.1 | exact g_us | assumption)) ((k_at m (by decide) (by decide))) (by omega) (Nat.le_of_ble_eq_true rfl) (by omega) (by omega) rfl (Nat.le_of_ble_eq_true rfl) rfl (kI fun r7 h7 n7 e7 => ?_) kN
      obtain ⟨rfl, rfl, rfl⟩ := e7
      refine r_icmp_geN (tgt := 28) dX3_weights_10 (by decide) (by omega) (by omega) (fun c10 => ?_) (fun c10 => absurd c10 (by omega))
      refine r_iload1 dX3_weights_28 ?_
      exact r_ireturn dX3_weights_29 rfl rfl (⟨by rw [show k = R 1 2 by omega]; rfl, rfl, rfl⟩)
    | succ j ih =>
      intro k hk
      refine r_iload2 dX3_weights_4 ?_
      refine r_aload0 dX3_weights_5 ?_
      refine r_iconst (v := nI 2) dX3_weights_6 (by decide) ?_
      refine r_callV (M' := mX3_at) _ dX3_weights_7 q3485 q3487 qs56 rfl (lw_all_tbl q3488) q138 (by exact pl_X3_at) gc_X3 (by first | exact m.1 | exact m0.1 | exact m1.1 | exact m2.1 | exact m3.1 | assumption | exact g_us | (rw [g_un (by omega)]; assumption) | (rw [g_un (by omega)]; exact g_us) | (rw [g_un (by omega), g_un (by omega)]; assumption) | (rw [g_un (by omega), g_un (by omega)]; exact g_us) | (rw [g_un (by omega), g_un (by omega), g_un (by omega)]; assumption) | ((repeat (rw [g_un (by omega)])); first | exact m.1 | exact m0.1 | exact m1.1 | exact m2.1 | exact m3.1 | exact g_us | assumption)) ((k_at m (by decide) (by decide))) (by omega) (Nat.le_of_ble_eq_true rfl) (by omega) (by omega) rfl (Nat.le_of_ble_eq_true rfl) rfl (kI fun r7 h7 n7 e7 => ?_) kN
      obtain ⟨rfl, rfl, rfl⟩ := e7
      refine r_icmp_geN (tgt := 28) dX3_weights_10 (by decide) (by omega) (by omega) (fun c10 => absurd c10 (by omega)) (fun c10 => ?_)
      refine r_iload1 dX3_weights_13 ?_
      refine r_aload0 dX3_weights_14 ?_
      refine r_iload2 dX3_weights_15 ?_
      refine r_iconst (v := nI 0) dX3_weights_16 (by decide) ?_
      refine r_callV (M' := mX3_loaf) _ dX3_weights_17 q3580 q3582 qs75 rfl (lw_all_tbl q3583) q138 (by exact pl_X3_loaf) gc_X3 (by first | exact m.1 | exact m0.1 | exact m1.1 | exact m2.1 | exact m3.1 | assumption | exact g_us | (rw [g_un (by omega)]; assumption) | (rw [g_un (by omega)]; exact g_us) | (rw [g_un (by omega), g_un (by omega)]; assumption) | (rw [g_un (by omega), g_un (by omega)]; exact g_us) | (rw [g_un (by omega), g_un (by omega), g_un (by omega)]; assumption) | ((repeat (rw [g_un (by omega)])); first | exact m.1 | exact m0.1 | exact m1.1 | exact m2.1 | exact m3.1 | exact g_us | assumption)) ((k_loaf m (by omega) (by decide))) (by omega) (Nat.le_of_ble_eq_true rfl) (by omega) (by omega) rfl (Nat.le_of_ble_eq_true rfl) rfl (kI fun r17 h17 n17 e17 => ?_) kN
      obtain ⟨rfl, rfl, rfl⟩ := e17
      rw [show 32 + 3 * k + 0 = 32 + 3 * k by omega]
      refine r_iadd dX3_weights_20 (by first | exact nI_add _ _ | rfl) ?_
      refine r_istore1 dX3_weights_21 ?_
      refine r_iinc2 dX3_weights_22 (ii1 _) ?_
      refine r_goto (tgt := 4) dX3_weights_25 (by decide) ?_
      exact ih (k + 1) (by omega)
  refine r_iconst (v := nI 0) dX3_weights_0 (by decide) ?_
  refine r_istore1 dX3_weights_1 ?_
  refine r_iconst (v := nI 0) dX3_weights_2 (by decide) ?_
  refine r_istore2 dX3_weights_3 ?_
  exact loop (R 1 2) 0 (by omega)
/-! sharing -/
theorem k_quota {c k : Nat} (m : mS a V R A h) (w : wB u (R 1)) (hc : c ≤ 9999) (hk : k < R 1 2) : g_Met K mX3_quota 4 0 0 [.ref a, .int (nI c), .int (nI k)] h n (gI fun r h' n' => r = nI (qt (R 1) c k) ∧ h' = h ∧ n' = n) gN := by
  have b := w.b
  have b1 := wts_p w (by omega)
  have b2 := wts_le w
  have b3 := cw_b w hc hk
  refine g_Met.of (M := mX3_quota) (L := [some (.ref a), some (.int (nI c)), some (.int (nI k))]) (by decide +kernel) (Nat.le_of_ble_eq_true rfl) rfl ?_
  refine r_iload1 dX3_quota_0 ?_
  refine r_aload0 dX3_quota_1 ?_
  refine r_iload2 dX3_quota_2 ?_
  refine r_iconst (v := nI 0) dX3_quota_3 (by decide) ?_
  refine r_callV (M' := mX3_loaf) _ dX3_quota_4 q3580 q3582 qs75 rfl (lw_all_tbl q3583) q138 (by exact pl_X3_loaf) gc_X3 (by first | exact m.1 | exact m0.1 | exact m1.1 | exact m2.1 | exact m3.1 | assumption | exact g_us | (rw [g_un (by omega)]; assumption) | (rw [g_un (by omega)]; exact g_us) | (rw [g_un (by omega), g_un (by omega)]; assumption) | (rw [g_un (by omega), g_un (by omega)]; exact g_us) | (rw [g_un (by omega), g_un (by omega), g_un (by omega)]; assumption) | ((repeat (rw [g_un (by omega)])); first | exact m.1 | exact m0.1 | exact m1.1 | exact m2.1 | exact m3.1 | exact g_us | assumption)) ((k_loaf m (by omega) (by decide))) (by omega) (Nat.le_of_ble_eq_true rfl) (by omega) (by omega) rfl (Nat.le_of_ble_eq_true rfl) rfl (kI fun r4 h4 n4 e4 => ?_) kN
  obtain ⟨rfl, rfl, rfl⟩ := e4
  rw [show 32 + 3 * k + 0 = 32 + 3 * k by omega]
  refine r_imul dX3_quota_7 (by first | exact pk_mul _ _ | rfl) ?_
  refine r_aload0 dX3_quota_8 ?_
  refine r_callV (M' := mX3_weights) _ dX3_quota_9 q3672 q3674 qs92 rfl (lw_all_tbl q3675) q138 (by exact pl_X3_weights) gc_X3 (by first | exact m.1 | exact m0.1 | exact m1.1 | exact m2.1 | exact m3.1 | assumption | exact g_us | (rw [g_un (by omega)]; assumption) | (rw [g_un (by omega)]; exact g_us) | (rw [g_un (by omega), g_un (by omega)]; assumption) | (rw [g_un (by omega), g_un (by omega)]; exact g_us) | (rw [g_un (by omega), g_un (by omega), g_un (by omega)]; assumption) | ((repeat (rw [g_un (by omega)])); first | exact m.1 | exact m0.1 | exact m1.1 | exact m2.1 | exact m3.1 | exact g_us | assumption)) ((k_weights m w)) (by omega) (Nat.le_of_ble_eq_true rfl) (by omega) (by omega) rfl (Nat.le_of_ble_eq_true rfl) rfl (kI fun r9 h9 n9 e9 => ?_) kN
  obtain ⟨rfl, rfl, rfl⟩ := e9
  refine r_idiv dX3_quota_12 (nI_ne0 (by omega) (by omega)) (by first | exact pk_div (by omega) (by omega) (by omega) | rfl) ?_
  exact r_ireturn dX3_quota_13 rfl rfl (⟨rfl, rfl, rfl⟩)
theorem k_rest {c k : Nat} (m : mS a V R A h) (w : wB u (R 1)) (hc : c ≤ 9999) (hk : k < R 1 2) : g_Met K mX3_rest 4 0 0 [.ref a, .int (nI c), .int (nI k)] h n (gI fun r h' n' => r = nI (rs (R 1) c k) ∧ h' = h ∧ n' = n) gN := by
  have b := w.b
  have b1 := wts_p w (by omega)
  have b2 := wts_le w
  have b3 := cw_b w hc hk
  refine g_Met.of (M := mX3_rest) (L := [some (.ref a), some (.int (nI c)), some (.int (nI k))]) (by decide +kernel) (Nat.le_of_ble_eq_true rfl) rfl ?_
  refine r_iload1 dX3_rest_0 ?_
  refine r_aload0 dX3_rest_1 ?_
  refine r_iload2 dX3_rest_2 ?_
  refine r_iconst (v := nI 0) dX3_rest_3 (by decide) ?_
  refine r_callV (M' := mX3_loaf) _ dX3_rest_4 q3580 q3582 qs75 rfl (lw_all_tbl q3583) q138 (by exact pl_X3_loaf) gc_X3 (by first | exact m.1 | exact m0.1 | exact m1.1 | exact m2.1 | exact m3.1 | assumption | exact g_us | (rw [g_un (by omega)]; assumption) | (rw [g_un (by omega)]; exact g_us) | (rw [g_un (by omega), g_un (by omega)]; assumption) | (rw [g_un (by omega), g_un (by omega)]; exact g_us) | (rw [g_un (by omega), g_un (by omega), g_un (by omega)]; assumption) | ((repeat (rw [g_un (by omega)])); first | exact m.1 | exact m0.1 | exact m1.1 | exact m2.1 | exact m3.1 | exact g_us | assumption)) ((k_loaf m (by omega) (by decide))) (by omega) (Nat.le_of_ble_eq_true rfl) (by omega) (by omega) rfl (Nat.le_of_ble_eq_true rfl) rfl (kI fun r4 h4 n4 e4 => ?_) kN
  obtain ⟨rfl, rfl, rfl⟩ := e4
  rw [show 32 + 3 * k + 0 = 32 + 3 * k by omega]
  refine r_imul dX3_rest_7 (by first | exact pk_mul _ _ | rfl) ?_
  refine r_aload0 dX3_rest_8 ?_
  refine r_callV (M' := mX3_weights) _ dX3_rest_9 q3672 q3674 qs92 rfl (lw_all_tbl q3675) q138 (by exact pl_X3_weights) gc_X3 (by first | exact m.1 | exact m0.1 | exact m1.1 | exact m2.1 | exact m3.1 | assumption | exact g_us | (rw [g_un (by omega)]; assumption) | (rw [g_un (by omega)]; exact g_us) | (rw [g_un (by omega), g_un (by omega)]; assumption) | (rw [g_un (by omega), g_un (by omega)]; exact g_us) | (rw [g_un (by omega), g_un (by omega), g_un (by omega)]; assumption) | ((repeat (rw [g_un (by omega)])); first | exact m.1 | exact m0.1 | exact m1.1 | exact m2.1 | exact m3.1 | exact g_us | assumption)) ((k_weights m w)) (by omega) (Nat.le_of_ble_eq_true rfl) (by omega) (by omega) rfl (Nat.le_of_ble_eq_true rfl) rfl (kI fun r9 h9 n9 e9 => ?_) kN
  obtain ⟨rfl, rfl, rfl⟩ := e9
  refine r_irem dX3_rest_12 (nI_ne0 (by omega) (by omega)) (by first | exact pk_rem (by omega) (by omega) (by omega) | rfl) ?_
  exact r_ireturn dX3_rest_13 rfl rfl (⟨rfl, rfl, rfl⟩)
theorem rs_b {u c k : Nat} {ρ : Nat → Nat} (w : wB u ρ) (h : 0 < ρ 2) : rs ρ c k < 160 := Nat.lt_of_lt_of_le (Nat.mod_lt _ (wts_p w h)) (wts_le w)
theorem k_shared {c k : Nat} (m : mS a V R A h) (w : wB u (R 1)) (hc : c ≤ 9999) (hk : k < R 1 2) : g_Met K mX3_shared 5 0 0 [.ref a, .int (nI c), .int (nI k)] h n (gI fun r h' n' => r = nI (shr (R 1) c k) ∧ h' = h ∧ n' = n) gN := by
  have b := w.b
  have b1 := wts_p w (by omega)
  have b4 := rs_b (c := c) (k := k) w (by omega)
  refine g_Met.of (M := mX3_shared) (L := [some (.ref a), some (.int (nI c)), some (.int (nI k)), none, none, none]) (by decide +kernel) (Nat.le_of_ble_eq_true rfl) rfl ?_
  have loop : ∀ (j i : Nat), i + j = R 1 2 → g_G K mX3_shared 5 0 0 (gI fun r h' n' => r = nI (shr (R 1) c k) ∧ h' = h ∧ n' = n) gN 8 [some (.ref a), some (.int (nI c)), some (.int (nI k)), some (.int (nI (c - sm (qt (R 1) c) i))), some (.int (nI (ahd (R 1) c k i))), some (.int (nI i))] [] h n := by
    intro j
    induction j with
    | zero =>
      intro i hi
      have hi : i = R 1 2 := by omega
      subst hi
      have b5 := sm_qt (c := c) b1 (Nat.le_refl _)
      have b6 := ahd_b (ρ := R 1) (c := c) (k := k) (j := R 1 2)
      refine r_iload5 dX3_shared_8 ?_
      refine r_aload0 dX3_shared_10 ?_
      refine r_iconst (v := nI 2) dX3_shared_11 (by decide) ?_
      refine r_callV (M' := mX3_at) _ dX3_shared_12 q3485 q3487 qs56 rfl (lw_all_tbl q3488) q138 (by exact pl_X3_at) gc_X3 (by first | exact m.1 | exact m0.1 | exact m1.1 | exact m2.1 | exact m3.1 | assumption | exact g_us | (rw [g_un (by omega)]; assumption) | (rw [g_un (by omega)]; exact g_us) | (rw [g_un (by omega), g_un (by omega)]; assumption) | (rw [g_un (by omega), g_un (by omega)]; exact g_us) | (rw [g_un (by omega), g_un (by omega), g_un (by omega)]; assumption) | ((repeat (rw [g_un (by omega)])); first | exact m.1 | exact m0.1 | exact m1.1 | exact m2.1 | exact m3.1 | exact g_us | assumption)) ((k_at m (by decide) (by decide))) (by omega) (Nat.le_of_ble_eq_true rfl) (by omega) (by omega) rfl (Nat.le_of_ble_eq_true rfl) rfl (kI fun r12 h12 n12 e12 => ?_) kN
      obtain ⟨rfl, rfl, rfl⟩ := e12
      refine r_icmp_geN (tgt := 82) dX3_shared_15 (by decide) (by omega) (by omega) (fun c15 => ?_) (fun c15 => absurd c15 (by omega))
      refine r_aload0 dX3_shared_82 ?_
      refine r_iload1 dX3_shared_83 ?_
      refine r_iload2 dX3_shared_84 ?_
      refine r_callV (M' := mX3_quota) _ dX3_shared_85 q3668 q3670 qs91 rfl (lw_all_tbl q3671) q138 (by exact pl_X3_quota) gc_X3 (by first | exact m.1 | exact m0.1 | exact m1.1 | exact m2.1 | exact m3.1 | assumption | exact g_us | (rw [g_un (by omega)]; assumption) | (rw [g_un (by omega)]; exact g_us) | (rw [g_un (by omega), g_un (by omega)]; assumption) | (rw [g_un (by omega), g_un (by omega)]; exact g_us) | (rw [g_un (by omega), g_un (by omega), g_un (by omega)]; assumption) | ((repeat (rw [g_un (by omega)])); first | exact m.1 | exact m0.1 | exact m1.1 | exact m2.1 | exact m3.1 | exact g_us | assumption)) ((k_quota m w hc hk)) (by omega) (Nat.le_of_ble_eq_true rfl) (by omega) (by omega) rfl (Nat.le_of_ble_eq_true rfl) rfl (kI fun r85 h85 n85 e85 => ?_) kN
      obtain ⟨rfl, rfl, rfl⟩ := e85
      refine r_iload4 dX3_shared_88 ?_
      refine r_iload3 dX3_shared_90 ?_
      refine r_icmp_geN (tgt := 98) dX3_shared_91 (by decide) (by omega) (by omega) (fun c91 => ?_) (fun c91 => ?_)
      · refine r_iconst (v := nI 0) dX3_shared_98 (by decide) ?_
        refine r_iadd dX3_shared_99 (by first | exact nI_add _ _ | rfl) ?_
        exact r_ireturn dX3_shared_100 rfl rfl (⟨by unfold shr; rw [if_neg (by omega)], rfl, rfl⟩)
      · refine r_iconst (v := nI 1) dX3_shared_94 (by decide) ?_
        refine r_goto (tgt := 99) dX3_shared_95 (by decide) ?_
        refine r_iadd dX3_shared_99 (by first | exact nI_add _ _ | rfl) ?_
        exact r_ireturn dX3_shared_100 rfl rfl (⟨by unfold shr; rw [if_pos (by omega)], rfl, rfl⟩)
    | succ j ih =>
      intro i hi
      have b5 := sm_qt (c := c) b1 (k := i + 1) (by omega)
      have b5 : sm (qt (R 1) c) i + qt (R 1) c i ≤ c := b5
      have b6 := ahd_b (ρ := R 1) (c := c) (k := k) (j := i)
      have b7 := rs_b (c := c) (k := i) w (by omega)
      have e5 : c - sm (qt (R 1) c) i - qt (R 1) c i = c - sm (qt (R 1) c) (i + 1) := by show _ = c - (sm (qt (R 1) c) i + qt (R 1) c i); omega
      refine r_iload5 dX3_shared_8 ?_
      refine r_aload0 dX3_shared_10 ?_
      refine r_iconst (v := nI 2) dX3_shared_11 (by decide) ?_
      refine r_callV (M' := mX3_at) _ dX3_shared_12 q3485 q3487 qs56 rfl (lw_all_tbl q3488) q138 (by exact pl_X3_at) gc_X3 (by first | exact m.1 | exact m0.1 | exact m1.1 | exact m2.1 | exact m3.1 | assumption | exact g_us | (rw [g_un (by omega)]; assumption) | (rw [g_un (by omega)]; exact g_us) | (rw [g_un (by omega), g_un (by omega)]; assumption) | (rw [g_un (by omega), g_un (by omega)]; exact g_us) | (rw [g_un (by omega), g_un (by omega), g_un (by omega)]; assumption) | ((repeat (rw [g_un (by omega)])); first | exact m.1 | exact m0.1 | exact m1.1 | exact m2.1 | exact m3.1 | exact g_us | assumption)) ((k_at m (by decide) (by decide))) (by omega) (Nat.le_of_ble_eq_true rfl) (by omega) (by omega) rfl (Nat.le_of_ble_eq_true rfl) rfl (kI fun r12 h12 n12 e12 => ?_) kN
      obtain ⟨rfl, rfl, rfl⟩ := e12
      refine r_icmp_geN (tgt := 82) dX3_shared_15 (by decide) (by omega) (by omega) (fun c15 => absurd c15 (by omega)) (fun c15 => ?_)
      refine r_iload3 dX3_shared_18 ?_
      refine r_aload0 dX3_shared_19 ?_
      refine r_iload1 dX3_shared_20 ?_
      refine r_iload5 dX3_shared_21 ?_
      refine r_callV (M' := mX3_quota) _ dX3_shared_23 q3668 q3670 qs91 rfl (lw_all_tbl q3671) q138 (by exact pl_X3_quota) gc_X3 (by first | exact m.1 | exact m0.1 | exact m1.1 | exact m2.1 | exact m3.1 | assumption | exact g_us | (rw [g_un (by omega)]; assumption) | (rw [g_un (by omega)]; exact g_us) | (rw [g_un (by omega), g_un (by omega)]; assumption) | (rw [g_un (by omega), g_un (by omega)]; exact g_us) | (rw [g_un (by omega), g_un (by omega), g_un (by omega)]; assumption) | ((repeat (rw [g_un (by omega)])); first | exact m.1 | exact m0.1 | exact m1.1 | exact m2.1 | exact m3.1 | exact g_us | assumption)) ((k_quota m w hc (by omega))) (by omega) (Nat.le_of_ble_eq_true rfl) (by omega) (by omega) rfl (Nat.le_of_ble_eq_true rfl) rfl (kI fun r23 h23 n23 e23 => ?_) kN
      obtain ⟨rfl, rfl, rfl⟩ := e23
      refine r_isub dX3_shared_26 (show _ = nI (c - sm (qt (R 1) c) (i + 1)) by rw [← e5]; exact pk_sub (by omega)) ?_
      refine r_istore3 dX3_shared_27 ?_
      refine r_iload4 dX3_shared_28 ?_
      refine r_aload0 dX3_shared_30 ?_
      refine r_iload1 dX3_shared_31 ?_
      refine r_iload5 dX3_shared_32 ?_
      refine r_callV (M' := mX3_rest) _ dX3_shared_34 q3676 q3678 qs93 rfl (lw_all_tbl q3679) q138 (by exact pl_X3_rest) gc_X3 (by first | exact m.1 | exact m0.1 | exact m1.1 | exact m2.1 | exact m3.1 | assumption | exact g_us | (rw [g_un (by omega)]; assumption) | (rw [g_un (by omega)]; exact g_us) | (rw [g_un (by omega), g_un (by omega)]; assumption) | (rw [g_un (by omega), g_un (by omega)]; exact g_us) | (rw [g_un (by omega), g_un (by omega), g_un (by omega)]; assumption) | ((repeat (rw [g_un (by omega)])); first | exact m.1 | exact m0.1 | exact m1.1 | exact m2.1 | exact m3.1 | exact g_us | assumption)) ((k_rest m w hc (by omega))) (by omega) (Nat.le_of_ble_eq_true rfl) (by omega) (by omega) rfl (Nat.le_of_ble_eq_true rfl) rfl (kI fun r34 h34 n34 e34 => ?_) kN
      obtain ⟨rfl, rfl, rfl⟩ := e34
      refine r_aload0 dX3_shared_37 ?_
      refine r_iload1 dX3_shared_38 ?_
      refine r_iload2 dX3_shared_39 ?_
      refine r_callV (M' := mX3_rest) _ dX3_shared_40 q3676 q3678 qs93 rfl (lw_all_tbl q3679) q138 (by exact pl_X3_rest) gc_X3 (by first | exact m.1 | exact m0.1 | exact m1.1 | exact m2.1 | exact m3.1 | assumption | exact g_us | (rw [g_un (by omega)]; assumption) | (rw [g_un (by omega)]; exact g_us) | (rw [g_un (by omega), g_un (by omega)]; assumption) | (rw [g_un (by omega), g_un (by omega)]; exact g_us) | (rw [g_un (by omega), g_un (by omega), g_un (by omega)]; assumption) | ((repeat (rw [g_un (by omega)])); first | exact m.1 | exact m0.1 | exact m1.1 | exact m2.1 | exact m3.1 | exact g_us | assumption)) ((k_rest m w hc hk)) (by omega) (Nat.le_of_ble_eq_true rfl) (by omega) (by omega) rfl (Nat.le_of_ble_eq_true rfl) rfl (kI fun r40 h40 n40 e40 => ?_) kN
      obtain ⟨rfl, rfl, rfl⟩ := e40
      refine r_icmp_gtN (tgt := 68) dX3_shared_43 (by decide) (by omega) (by omega) (fun c43 => ?_) (fun c43 => ?_)
      · refine r_iconst (v := nI 1) dX3_shared_68 (by decide) ?_
        refine r_goto (tgt := 73) dX3_shared_69 (by decide) ?_
        refine r_iadd dX3_shared_73 (show _ = nI (ahd (R 1) c k (i + 1)) by rw [ahd_y (Or.inl c43)]; exact nI_add _ _) ?_
        refine r_istore4 dX3_shared_74 ?_
        refine r_iinc5 dX3_shared_76 (ii1 _) ?_
        refine r_goto (tgt := 8) dX3_shared_79 (by decide) ?_
        exact ih (i + 1) (by omega)
      · refine r_aload0 dX3_shared_46 ?_
        refine r_iload1 dX3_shared_47 ?_
        refine r_iload5 dX3_shared_48 ?_
        refine r_callV (M' := mX3_rest) _ dX3_shared_50 q3676 q3678 qs93 rfl (lw_all_tbl q3679) q138 (by exact pl_X3_rest) gc_X3 (by first | exact m.1 | exact m0.1 | exact m1.1 | exact m2.1 | exact m3.1 | assumption | exact g_us | (rw [g_un (by omega)]; assumption) | (rw [g_un (by omega)]; exact g_us) | (rw [g_un (by omega), g_un (by omega)]; assumption) | (rw [g_un (by omega), g_un (by omega)]; exact g_us) | (rw [g_un (by omega), g_un (by omega), g_un (by omega)]; assumption) | ((repeat (rw [g_un (by omega)])); first | exact m.1 | exact m0.1 | exact m1.1 | exact m2.1 | exact m3.1 | exact g_us | assumption)) ((k_rest m w hc (by omega))) (by omega) (Nat.le_of_ble_eq_true rfl) (by omega) (by omega) rfl (Nat.le_of_ble_eq_true rfl) rfl (kI fun r50 h50 n50 e50 => ?_) kN
        obtain ⟨rfl, rfl, rfl⟩ := e50
        refine r_aload0 dX3_shared_53 ?_
        refine r_iload1 dX3_shared_54 ?_
        refine r_iload2 dX3_shared_55 ?_
        refine r_callV (M' := mX3_rest) _ dX3_shared_56 q3676 q3678 qs93 rfl (lw_all_tbl q3679) q138 (by exact pl_X3_rest) gc_X3 (by first | exact m.1 | exact m0.1 | exact m1.1 | exact m2.1 | exact m3.1 | assumption | exact g_us | (rw [g_un (by omega)]; assumption) | (rw [g_un (by omega)]; exact g_us) | (rw [g_un (by omega), g_un (by omega)]; assumption) | (rw [g_un (by omega), g_un (by omega)]; exact g_us) | (rw [g_un (by omega), g_un (by omega), g_un (by omega)]; assumption) | ((repeat (rw [g_un (by omega)])); first | exact m.1 | exact m0.1 | exact m1.1 | exact m2.1 | exact m3.1 | exact g_us | assumption)) ((k_rest m w hc hk)) (by omega) (Nat.le_of_ble_eq_true rfl) (by omega) (by omega) rfl (Nat.le_of_ble_eq_true rfl) rfl (kI fun r56 h56 n56 e56 => ?_) kN
        obtain ⟨rfl, rfl, rfl⟩ := e56
        refine r_icmp_neN (tgt := 72) dX3_shared_59 (by decide) (by omega) (by omega) (fun c59 => ?_) (fun c59 => ?_)
        · refine r_iconst (v := nI 0) dX3_shared_72 (by decide) ?_
          refine r_iadd dX3_shared_73 (show _ = nI (ahd (R 1) c k (i + 1)) by rw [ahd_n (by omega)]; exact nI_add _ _) ?_
          refine r_istore4 dX3_shared_74 ?_
          refine r_iinc5 dX3_shared_76 (ii1 _) ?_
          refine r_goto (tgt := 8) dX3_shared_79 (by decide) ?_
          exact ih (i + 1) (by omega)
        · refine r_iload5 dX3_shared_62 ?_
          refine r_iload2 dX3_shared_64 ?_
          refine r_icmp_geN (tgt := 72) dX3_shared_65 (by decide) (by omega) (by omega) (fun c65 => ?_) (fun c65 => ?_)
          · refine r_iconst (v := nI 0) dX3_shared_72 (by decide) ?_
            refine r_iadd dX3_shared_73 (show _ = nI (ahd (R 1) c k (i + 1)) by rw [ahd_n (by omega)]; exact nI_add _ _) ?_
            refine r_istore4 dX3_shared_74 ?_
            refine r_iinc5 dX3_shared_76 (ii1 _) ?_
            refine r_goto (tgt := 8) dX3_shared_79 (by decide) ?_
            exact ih (i + 1) (by omega)
          · refine r_iconst (v := nI 1) dX3_shared_68 (by decide) ?_
            refine r_goto (tgt := 73) dX3_shared_69 (by decide) ?_
            refine r_iadd dX3_shared_73 (show _ = nI (ahd (R 1) c k (i + 1)) by rw [ahd_y (by omega)]; exact nI_add _ _) ?_
            refine r_istore4 dX3_shared_74 ?_
            refine r_iinc5 dX3_shared_76 (ii1 _) ?_
            refine r_goto (tgt := 8) dX3_shared_79 (by decide) ?_
            exact ih (i + 1) (by omega)
  refine r_iload1 dX3_shared_0 ?_
  refine r_istore3 dX3_shared_1 ?_
  refine r_iconst (v := nI 0) dX3_shared_2 (by decide) ?_
  refine r_istore4 dX3_shared_3 ?_
  refine r_iconst (v := nI 0) dX3_shared_5 (by decide) ?_
  refine r_istore5 dX3_shared_6 ?_
  exact loop (R 1 2) 0 (by omega)
end
