/-! the reference's questions -/
set_option maxRecDepth 100000
section
variable {K : g_K} {a n u : Nat} {V : Nat → Nat → Int32} {R : Nat → Nat → Nat} {A : Nat → Nat → Int64} {h : g_P}
theorem k_told {k : Nat} (hb : k_b K ≤ a) (m : mS a V R A h) (hk : k < 6) : g_Met K mX3_told 2 0 0 [.ref a, .int (nI k)] h n (gI fun r h' n' => mQ a V R A 0 (R 1 k) r h' ∧ mT a h h' ∧ n' = n) gN := by
  refine g_Met.of (M := mX3_told) (L := [some (.ref a), some (.int (nI k))]) (by decide +kernel) (Nat.le_of_ble_eq_true rfl) rfl ?_
  refine r_aload0 dX3_told_0 ?_
  refine r_iconst (v := nI 0) dX3_told_1 (by decide) ?_
  refine p_X3_1_X3 dX3_told_2 (by omega) (by first | exact m.1 | exact m0.1 | exact m1.1 | exact m2.1 | exact m3.1 | assumption | exact g_us | (rw [g_un (by omega)]; assumption) | (rw [g_un (by omega)]; exact g_us) | (rw [g_un (by omega), g_un (by omega)]; assumption) | (rw [g_un (by omega), g_un (by omega)]; exact g_us) | (rw [g_un (by omega), g_un (by omega), g_un (by omega)]; assumption) | ((repeat (rw [g_un (by omega)])); first | exact m.1 | exact m0.1 | exact m1.1 | exact m2.1 | exact m3.1 | exact g_us | assumption)) ?_
  refine m.goZ (fun h0 m0 t0 => ?_)
  refine r_aload0 dX3_told_5 ?_
  refine r_iload1 dX3_told_6 ?_
  refine r_callV (M' := mX3_at) _ dX3_told_7 q3485 q3487 qs56 rfl (lw_all_tbl q3488) q138 (by exact pl_X3_at) gc_X3 (by first | exact m.1 | exact m0.1 | exact m1.1 | exact m2.1 | exact m3.1 | assumption | exact g_us | (rw [g_un (by omega)]; assumption) | (rw [g_un (by omega)]; exact g_us) | (rw [g_un (by omega), g_un (by omega)]; assumption) | (rw [g_un (by omega), g_un (by omega)]; exact g_us) | (rw [g_un (by omega), g_un (by omega), g_un (by omega)]; assumption) | ((repeat (rw [g_un (by omega)])); first | exact m.1 | exact m0.1 | exact m1.1 | exact m2.1 | exact m3.1 | exact g_us | assumption)) ((k_at m0 (by omega) (by omega))) (by omega) (Nat.le_of_ble_eq_true rfl) (by omega) (by omega) rfl (Nat.le_of_ble_eq_true rfl) rfl (kI fun r7 h7 n7 e7 => ?_) kN
  obtain ⟨rfl, rfl, rfl⟩ := e7
  exact r_ireturn dX3_told_10 rfl rfl (⟨mQ.z rfl rfl m0, t0, rfl⟩)
theorem k_doughCount (hb : k_b K ≤ a) (m : mS a V R A h) : g_Met K mX3_doughCount 3 0 0 [.ref a] h n (gI fun r h' n' => mQ a V R A 0 (R 1 0) r h' ∧ mT a h h' ∧ n' = n) gN := by
  refine g_Met.of (M := mX3_doughCount) (L := [some (.ref a)]) (by decide +kernel) (Nat.le_of_ble_eq_true rfl) rfl ?_
  refine r_aload0 dX3_doughCount_0 ?_
  refine r_iconst (v := nI 0) dX3_doughCount_1 (by decide) ?_
  refine r_callV (M' := mX3_told) _ dX3_doughCount_2 q3691 q3693 qs94 rfl (lw_all_tbl q3694) q138 (by exact pl_X3_told) gc_X3 (by first | exact m.1 | exact m0.1 | exact m1.1 | exact m2.1 | exact m3.1 | assumption | exact g_us | (rw [g_un (by omega)]; assumption) | (rw [g_un (by omega)]; exact g_us) | (rw [g_un (by omega), g_un (by omega)]; assumption) | (rw [g_un (by omega), g_un (by omega)]; exact g_us) | (rw [g_un (by omega), g_un (by omega), g_un (by omega)]; assumption) | ((repeat (rw [g_un (by omega)])); first | exact m.1 | exact m0.1 | exact m1.1 | exact m2.1 | exact m3.1 | exact g_us | assumption)) ((k_told hb m (by decide))) (by omega) (Nat.le_of_ble_eq_true rfl) (by omega) (by omega) rfl (Nat.le_of_ble_eq_true rfl) rfl (kI fun r2 h2 n2 e2 => ?_) kN
  exact r_ireturn dX3_doughCount_5 rfl rfl (e2)
theorem k_bowlCount (hb : k_b K ≤ a) (m : mS a V R A h) : g_Met K mX3_bowlCount 3 0 0 [.ref a] h n (gI fun r h' n' => mQ a V R A 0 (R 1 1) r h' ∧ mT a h h' ∧ n' = n) gN := by
  refine g_Met.of (M := mX3_bowlCount) (L := [some (.ref a)]) (by decide +kernel) (Nat.le_of_ble_eq_true rfl) rfl ?_
  refine r_aload0 dX3_bowlCount_0 ?_
  refine r_iconst (v := nI 1) dX3_bowlCount_1 (by decide) ?_
  refine r_callV (M' := mX3_told) _ dX3_bowlCount_2 q3691 q3693 qs94 rfl (lw_all_tbl q3694) q138 (by exact pl_X3_told) gc_X3 (by first | exact m.1 | exact m0.1 | exact m1.1 | exact m2.1 | exact m3.1 | assumption | exact g_us | (rw [g_un (by omega)]; assumption) | (rw [g_un (by omega)]; exact g_us) | (rw [g_un (by omega), g_un (by omega)]; assumption) | (rw [g_un (by omega), g_un (by omega)]; exact g_us) | (rw [g_un (by omega), g_un (by omega), g_un (by omega)]; assumption) | ((repeat (rw [g_un (by omega)])); first | exact m.1 | exact m0.1 | exact m1.1 | exact m2.1 | exact m3.1 | exact g_us | assumption)) ((k_told hb m (by decide))) (by omega) (Nat.le_of_ble_eq_true rfl) (by omega) (by omega) rfl (Nat.le_of_ble_eq_true rfl) rfl (kI fun r2 h2 n2 e2 => ?_) kN
  exact r_ireturn dX3_bowlCount_5 rfl rfl (e2)
theorem k_loafCount (hb : k_b K ≤ a) (m : mS a V R A h) : g_Met K mX3_loafCount 3 0 0 [.ref a] h n (gI fun r h' n' => mQ a V R A 0 (R 1 2) r h' ∧ mT a h h' ∧ n' = n) gN := by
  refine g_Met.of (M := mX3_loafCount) (L := [some (.ref a)]) (by decide +kernel) (Nat.le_of_ble_eq_true rfl) rfl ?_
  refine r_aload0 dX3_loafCount_0 ?_
  refine r_iconst (v := nI 2) dX3_loafCount_1 (by decide) ?_
  refine r_callV (M' := mX3_told) _ dX3_loafCount_2 q3691 q3693 qs94 rfl (lw_all_tbl q3694) q138 (by exact pl_X3_told) gc_X3 (by first | exact m.1 | exact m0.1 | exact m1.1 | exact m2.1 | exact m3.1 | assumption | exact g_us | (rw [g_un (by omega)]; assumption) | (rw [g_un (by omega)]; exact g_us) | (rw [g_un (by omega), g_un (by omega)]; assumption) | (rw [g_un (by omega), g_un (by omega)]; exact g_us) | (rw [g_un (by omega), g_un (by omega), g_un (by omega)]; assumption) | ((repeat (rw [g_un (by omega)])); first | exact m.1 | exact m0.1 | exact m1.1 | exact m2.1 | exact m3.1 | exact g_us | assumption)) ((k_told hb m (by decide))) (by omega) (Nat.le_of_ble_eq_true rfl) (by omega) (by omega) rfl (Nat.le_of_ble_eq_true rfl) rfl (kI fun r2 h2 n2 e2 => ?_) kN
  exact r_ireturn dX3_loafCount_5 rfl rfl (e2)
theorem k_ovens (hb : k_b K ≤ a) (m : mS a V R A h) : g_Met K mX3_ovens 3 0 0 [.ref a] h n (gI fun r h' n' => mQ a V R A 0 (R 1 5) r h' ∧ mT a h h' ∧ n' = n) gN := by
  refine g_Met.of (M := mX3_ovens) (L := [some (.ref a)]) (by decide +kernel) (Nat.le_of_ble_eq_true rfl) rfl ?_
  refine r_aload0 dX3_ovens_0 ?_
  refine r_iconst (v := nI 5) dX3_ovens_1 (by decide) ?_
  refine r_callV (M' := mX3_told) _ dX3_ovens_2 q3691 q3693 qs94 rfl (lw_all_tbl q3694) q138 (by exact pl_X3_told) gc_X3 (by first | exact m.1 | exact m0.1 | exact m1.1 | exact m2.1 | exact m3.1 | assumption | exact g_us | (rw [g_un (by omega)]; assumption) | (rw [g_un (by omega)]; exact g_us) | (rw [g_un (by omega), g_un (by omega)]; assumption) | (rw [g_un (by omega), g_un (by omega)]; exact g_us) | (rw [g_un (by omega), g_un (by omega), g_un (by omega)]; assumption) | ((repeat (rw [g_un (by omega)])); first | exact m.1 | exact m0.1 | exact m1.1 | exact m2.1 | exact m3.1 | exact g_us | assumption)) ((k_told hb m (by decide))) (by omega) (Nat.le_of_ble_eq_true rfl) (by omega) (by omega) rfl (Nat.le_of_ble_eq_true rfl) rfl (kI fun r2 h2 n2 e2 => ?_) kN
  exact r_ireturn dX3_ovens_5 rfl rfl (e2)
/-! of one dough, bowl, loaf -/
theorem k_ofDough {p : Int32} {j : Nat} (hb : k_b K ≤ a) (m : mS a V R A h) (w : wB u (R 1)) (hj : j < 2) : g_Met K mX3_ofDough 3 0 0 [.ref a, .int p, .int (nI j)] h n (gI fun r h' n' => mQ a V R A (if ix p (R 1 0) then 0 else 1) (R 1 (10 + 2 * tN p + j)) r h' ∧ mT a h h' ∧ n' = n) gN := by
  have b := w.b
  refine g_Met.of (M := mX3_ofDough) (L := [some (.ref a), some (.int p), some (.int (nI j))]) (by decide +kernel) (Nat.le_of_ble_eq_true rfl) rfl ?_
  refine r_aload0 dX3_ofDough_0 ?_
  refine r_iconst (v := nI 0) dX3_ofDough_1 (by decide) ?_
  refine p_X3_1_X3 dX3_ofDough_2 (by omega) (by first | exact m.1 | exact m0.1 | exact m1.1 | exact m2.1 | exact m3.1 | assumption | exact g_us | (rw [g_un (by omega)]; assumption) | (rw [g_un (by omega)]; exact g_us) | (rw [g_un (by omega), g_un (by omega)]; assumption) | (rw [g_un (by omega), g_un (by omega)]; exact g_us) | (rw [g_un (by omega), g_un (by omega), g_un (by omega)]; assumption) | ((repeat (rw [g_un (by omega)])); first | exact m.1 | exact m0.1 | exact m1.1 | exact m2.1 | exact m3.1 | exact g_us | assumption)) ?_
  refine m.goZ (fun h0 m0 t0 => ?_)
  refine r_aload0 dX3_ofDough_5 ?_
  refine r_iload1 dX3_ofDough_6 ?_
  refine r_callV (M' := mX3_isDough) _ dX3_ofDough_7 q3524 q3526 qs64 rfl (lw_all_tbl q3527) q138 (by exact pl_X3_isDough) gc_X3 (by first | exact m.1 | exact m0.1 | exact m1.1 | exact m2.1 | exact m3.1 | assumption | exact g_us | (rw [g_un (by omega)]; assumption) | (rw [g_un (by omega)]; exact g_us) | (rw [g_un (by omega), g_un (by omega)]; assumption) | (rw [g_un (by omega), g_un (by omega)]; exact g_us) | (rw [g_un (by omega), g_un (by omega), g_un (by omega)]; assumption) | ((repeat (rw [g_un (by omega)])); first | exact m.1 | exact m0.1 | exact m1.1 | exact m2.1 | exact m3.1 | exact g_us | assumption)) ((k_isDough m0 w)) (by omega) (Nat.le_of_ble_eq_true rfl) (by omega) (by omega) rfl (Nat.le_of_ble_eq_true rfl) rfl (kI fun r7 h7 n7 e7 => ?_) kN
  obtain ⟨rfl, rfl, rfl⟩ := e7
  refine r_if_eqB (tgt := 22) dX3_ofDough_10 (by decide) (fun c10 => ?_) (fun c10 => ?_)
  · refine r_aload0 dX3_ofDough_22 ?_
    refine r_iconst (v := nI 1) dX3_ofDough_23 (by decide) ?_
    refine r_callV (M' := mX3_fails) _ dX3_ofDough_24 q3489 q3491 qs57 rfl (lw_all_tbl q3492) q138 (by exact pl_X3_fails) gc_X3 (by first | exact m.1 | exact m0.1 | exact m1.1 | exact m2.1 | exact m3.1 | assumption | exact g_us | (rw [g_un (by omega)]; assumption) | (rw [g_un (by omega)]; exact g_us) | (rw [g_un (by omega), g_un (by omega)]; assumption) | (rw [g_un (by omega), g_un (by omega)]; exact g_us) | (rw [g_un (by omega), g_un (by omega), g_un (by omega)]; assumption) | ((repeat (rw [g_un (by omega)])); first | exact m.1 | exact m0.1 | exact m1.1 | exact m2.1 | exact m3.1 | exact g_us | assumption)) ((k_fails hb m0)) (by omega) (Nat.le_of_ble_eq_true rfl) (by omega) (by omega) rfl (Nat.le_of_ble_eq_true rfl) rfl (kI fun r24 h24 n24 e24 => ?_) kN
    obtain ⟨rfl, m1, t1, rfl⟩ := e24
    exact r_ireturn dX3_ofDough_27 rfl rfl (⟨by rw [if_neg c10]; exact mQ.no (by decide) m1, t0.tr t1, rfl⟩)
  · obtain ⟨i, hi, rfl, ti⟩ := ix_ex c10
    refine r_aload0 dX3_ofDough_13 ?_
    refine r_iload1 dX3_ofDough_14 ?_
    refine r_iload2 dX3_ofDough_15 ?_
    refine r_callV (M' := mX3_dough) _ dX3_ofDough_16 q3532 q3534 qs66 rfl (lw_all_tbl q3535) q138 (by exact pl_X3_dough) gc_X3 (by first | exact m.1 | exact m0.1 | exact m1.1 | exact m2.1 | exact m3.1 | assumption | exact g_us | (rw [g_un (by omega)]; assumption) | (rw [g_un (by omega)]; exact g_us) | (rw [g_un (by omega), g_un (by omega)]; assumption) | (rw [g_un (by omega), g_un (by omega)]; exact g_us) | (rw [g_un (by omega), g_un (by omega), g_un (by omega)]; assumption) | ((repeat (rw [g_un (by omega)])); first | exact m.1 | exact m0.1 | exact m1.1 | exact m2.1 | exact m3.1 | exact g_us | assumption)) ((k_dough m0 (by omega) hj)) (by omega) (Nat.le_of_ble_eq_true rfl) (by omega) (by omega) rfl (Nat.le_of_ble_eq_true rfl) rfl (kI fun r16 h16 n16 e16 => ?_) kN
    obtain ⟨rfl, rfl, rfl⟩ := e16
    refine r_goto (tgt := 27) dX3_ofDough_19 (by decide) ?_
    exact r_ireturn dX3_ofDough_27 rfl rfl (⟨by rw [if_pos c10, ti]; exact mQ.z rfl rfl m0, t0, rfl⟩)
theorem k_ofBowl {p : Int32} {j : Nat} (hb : k_b K ≤ a) (m : mS a V R A h) (w : wB u (R 1)) (hj : j < 2) : g_Met K mX3_ofBowl 3 0 0 [.ref a, .int p, .int (nI j)] h n (gI fun r h' n' => mQ a V R A (if ix p (R 1 1) then 0 else 1) (R 1 (22 + 2 * tN p + j)) r h' ∧ mT a h h' ∧ n' = n) gN := by
  have b := w.b
  refine g_Met.of (M := mX3_ofBowl) (L := [some (.ref a), some (.int p), some (.int (nI j))]) (by decide +kernel) (Nat.le_of_ble_eq_true rfl) rfl ?_
  refine r_aload0 dX3_ofBowl_0 ?_
  refine r_iconst (v := nI 0) dX3_ofBowl_1 (by decide) ?_
  refine p_X3_1_X3 dX3_ofBowl_2 (by omega) (by first | exact m.1 | exact m0.1 | exact m1.1 | exact m2.1 | exact m3.1 | assumption | exact g_us | (rw [g_un (by omega)]; assumption) | (rw [g_un (by omega)]; exact g_us) | (rw [g_un (by omega), g_un (by omega)]; assumption) | (rw [g_un (by omega), g_un (by omega)]; exact g_us) | (rw [g_un (by omega), g_un (by omega), g_un (by omega)]; assumption) | ((repeat (rw [g_un (by omega)])); first | exact m.1 | exact m0.1 | exact m1.1 | exact m2.1 | exact m3.1 | exact g_us | assumption)) ?_
  refine m.goZ (fun h0 m0 t0 => ?_)
  refine r_aload0 dX3_ofBowl_5 ?_
  refine r_iload1 dX3_ofBowl_6 ?_
  refine r_callV (M' := mX3_isBowl) _ dX3_ofBowl_7 q3623 q3625 qs82 rfl (lw_all_tbl q3626) q138 (by exact pl_X3_isBowl) gc_X3 (by first | exact m.1 | exact m0.1 | exact m1.1 | exact m2.1 | exact m3.1 | assumption | exact g_us | (rw [g_un (by omega)]; assumption) | (rw [g_un (by omega)]; exact g_us) | (rw [g_un (by omega), g_un (by omega)]; assumption) | (rw [g_un (by omega), g_un (by omega)]; exact g_us) | (rw [g_un (by omega), g_un (by omega), g_un (by omega)]; assumption) | ((repeat (rw [g_un (by omega)])); first | exact m.1 | exact m0.1 | exact m1.1 | exact m2.1 | exact m3.1 | exact g_us | assumption)) ((k_isBowl m0 w)) (by omega) (Nat.le_of_ble_eq_true rfl) (by omega) (by omega) rfl (Nat.le_of_ble_eq_true rfl) rfl (kI fun r7 h7 n7 e7 => ?_) kN
  obtain ⟨rfl, rfl, rfl⟩ := e7
  refine r_if_eqB (tgt := 22) dX3_ofBowl_10 (by decide) (fun c10 => ?_) (fun c10 => ?_)
  · refine r_aload0 dX3_ofBowl_22 ?_
    refine r_iconst (v := nI 1) dX3_ofBowl_23 (by decide) ?_
    refine r_callV (M' := mX3_fails) _ dX3_ofBowl_24 q3489 q3491 qs57 rfl (lw_all_tbl q3492) q138 (by exact pl_X3_fails) gc_X3 (by first | exact m.1 | exact m0.1 | exact m1.1 | exact m2.1 | exact m3.1 | assumption | exact g_us | (rw [g_un (by omega)]; assumption) | (rw [g_un (by omega)]; exact g_us) | (rw [g_un (by omega), g_un (by omega)]; assumption) | (rw [g_un (by omega), g_un (by omega)]; exact g_us) | (rw [g_un (by omega), g_un (by omega), g_un (by omega)]; assumption) | ((repeat (rw [g_un (by omega)])); first | exact m.1 | exact m0.1 | exact m1.1 | exact m2.1 | exact m3.1 | exact g_us | assumption)) ((k_fails hb m0)) (by omega) (Nat.le_of_ble_eq_true rfl) (by omega) (by omega) rfl (Nat.le_of_ble_eq_true rfl) rfl (kI fun r24 h24 n24 e24 => ?_) kN
    obtain ⟨rfl, m1, t1, rfl⟩ := e24
    exact r_ireturn dX3_ofBowl_27 rfl rfl (⟨by rw [if_neg c10]; exact mQ.no (by decide) m1, t0.tr t1, rfl⟩)
  · obtain ⟨i, hi, rfl, ti⟩ := ix_ex c10
    refine r_aload0 dX3_ofBowl_13 ?_
    refine r_iload1 dX3_ofBowl_14 ?_
    refine r_iload2 dX3_ofBowl_15 ?_
    refine r_callV (M' := mX3_bowl) _ dX3_ofBowl_16 q3596 q3598 qs78 rfl (lw_all_tbl q3599) q138 (by exact pl_X3_bowl) gc_X3 (by first | exact m.1 | exact m0.1 | exact m1.1 | exact m2.1 | exact m3.1 | assumption | exact g_us | (rw [g_un (by omega)]; assumption) | (rw [g_un (by omega)]; exact g_us) | (rw [g_un (by omega), g_un (by omega)]; assumption) | (rw [g_un (by omega), g_un (by omega)]; exact g_us) | (rw [g_un (by omega), g_un (by omega), g_un (by omega)]; assumption) | ((repeat (rw [g_un (by omega)])); first | exact m.1 | exact m0.1 | exact m1.1 | exact m2.1 | exact m3.1 | exact g_us | assumption)) ((k_bowl m0 (by omega) hj)) (by omega) (Nat.le_of_ble_eq_true rfl) (by omega) (by omega) rfl (Nat.le_of_ble_eq_true rfl) rfl (kI fun r16 h16 n16 e16 => ?_) kN
    obtain ⟨rfl, rfl, rfl⟩ := e16
    refine r_goto (tgt := 27) dX3_ofBowl_19 (by decide) ?_
    exact r_ireturn dX3_ofBowl_27 rfl rfl (⟨by rw [if_pos c10, ti]; exact mQ.z rfl rfl m0, t0, rfl⟩)
theorem k_ofLoaf {p : Int32} {j : Nat} (hb : k_b K ≤ a) (m : mS a V R A h) (w : wB u (R 1)) (hj : j < 3) : g_Met K mX3_ofLoaf 3 0 0 [.ref a, .int p, .int (nI j)] h n (gI fun r h' n' => mQ a V R A (if ix p (R 1 2) then 0 else 1) (R 1 (32 + 3 * tN p + j)) r h' ∧ mT a h h' ∧ n' = n) gN := by
  have b := w.b
  refine g_Met.of (M := mX3_ofLoaf) (L := [some (.ref a), some (.int p), some (.int (nI j))]) (by decide +kernel) (Nat.le_of_ble_eq_true rfl) rfl ?_
  refine r_aload0 dX3_ofLoaf_0 ?_
  refine r_iconst (v := nI 0) dX3_ofLoaf_1 (by decide) ?_
  refine p_X3_1_X3 dX3_ofLoaf_2 (by omega) (by first | exact m.1 | exact m0.1 | exact m1.1 | exact m2.1 | exact m3.1 | assumption | exact g_us | (rw [g_un (by omega)]; assumption) | (rw [g_un (by omega)]; exact g_us) | (rw [g_un (by omega), g_un (by omega)]; assumption) | (rw [g_un (by omega), g_un (by omega)]; exact g_us) | (rw [g_un (by omega), g_un (by omega), g_un (by omega)]; assumption) | ((repeat (rw [g_un (by omega)])); first | exact m.1 | exact m0.1 | exact m1.1 | exact m2.1 | exact m3.1 | exact g_us | assumption)) ?_
  refine m.goZ (fun h0 m0 t0 => ?_)
  refine r_aload0 dX3_ofLoaf_5 ?_
  refine r_iload1 dX3_ofLoaf_6 ?_
  refine r_callV (M' := mX3_isLoaf) _ dX3_ofLoaf_7 q3572 q3574 qs73 rfl (lw_all_tbl q3575) q138 (by exact pl_X3_isLoaf) gc_X3 (by first | exact m.1 | exact m0.1 | exact m1.1 | exact m2.1 | exact m3.1 | assumption | exact g_us | (rw [g_un (by omega)]; assumption) | (rw [g_un (by omega)]; exact g_us) | (rw [g_un (by omega), g_un (by omega)]; assumption) | (rw [g_un (by omega), g_un (by omega)]; exact g_us) | (rw [g_un (by omega), g_un (by omega), g_un (by omega)]; assumption) | ((repeat (rw [g_un (by omega)])); first | exact m.1 | exact m0.1 | exact m1.1 | exact m2.1 | exact m3.1 | exact g_us | assumption)) ((k_isLoaf m0 w)) (by omega) (Nat.le_of_ble_eq_true rfl) (by omega) (by omega) rfl (Nat.le_of_ble_eq_true rfl) rfl (kI fun r7 h7 n7 e7 => ?_) kN
  obtain ⟨rfl, rfl, rfl⟩ := e7
  refine r_if_eqB (tgt := 22) dX3_ofLoaf_10 (by decide) (fun c10 => ?_) (fun c10 => ?_)
  · refine r_aload0 dX3_ofLoaf_22 ?_
    refine r_iconst (v := nI 1) dX3_ofLoaf_23 (by decide) ?_
    refine r_callV (M' := mX3_fails) _ dX3_ofLoaf_24 q3489 q3491 qs57 rfl (lw_all_tbl q3492) q138 (by exact pl_X3_fails) gc_X3 (by first | exact m.1 | exact m0.1 | exact m1.1 | exact m2.1 | exact m3.1 | assumption | exact g_us | (rw [g_un (by omega)]; assumption) | (rw [g_un (by omega)]; exact g_us) | (rw [g_un (by omega), g_un (by omega)]; assumption) | (rw [g_un (by omega), g_un (by omega)]; exact g_us) | (rw [g_un (by omega), g_un (by omega), g_un (by omega)]; assumption) | ((repeat (rw [g_un (by omega)])); first | exact m.1 | exact m0.1 | exact m1.1 | exact m2.1 | exact m3.1 | exact g_us | assumption)) ((k_fails hb m0)) (by omega) (Nat.le_of_ble_eq_true rfl) (by omega) (by omega) rfl (Nat.le_of_ble_eq_true rfl) rfl (kI fun r24 h24 n24 e24 => ?_) kN
    obtain ⟨rfl, m1, t1, rfl⟩ := e24
    exact r_ireturn dX3_ofLoaf_27 rfl rfl (⟨by rw [if_neg c10]; exact mQ.no (by decide) m1, t0.tr t1, rfl⟩)
  · obtain ⟨i, hi, rfl, ti⟩ := ix_ex c10
    refine r_aload0 dX3_ofLoaf_13 ?_
    refine r_iload1 dX3_ofLoaf_14 ?_
    refine r_iload2 dX3_ofLoaf_15 ?_
    refine r_callV (M' := mX3_loaf) _ dX3_ofLoaf_16 q3580 q3582 qs75 rfl (lw_all_tbl q3583) q138 (by exact pl_X3_loaf) gc_X3 (by first | exact m.1 | exact m0.1 | exact m1.1 | exact m2.1 | exact m3.1 | assumption | exact g_us | (rw [g_un (by omega)]; assumption) | (rw [g_un (by omega)]; exact g_us) | (rw [g_un (by omega), g_un (by omega)]; assumption) | (rw [g_un (by omega), g_un (by omega)]; exact g_us) | (rw [g_un (by omega), g_un (by omega), g_un (by omega)]; assumption) | ((repeat (rw [g_un (by omega)])); first | exact m.1 | exact m0.1 | exact m1.1 | exact m2.1 | exact m3.1 | exact g_us | assumption)) ((k_loaf m0 (by omega) hj)) (by omega) (Nat.le_of_ble_eq_true rfl) (by omega) (by omega) rfl (Nat.le_of_ble_eq_true rfl) rfl (kI fun r16 h16 n16 e16 => ?_) kN
    obtain ⟨rfl, rfl, rfl⟩ := e16
    refine r_goto (tgt := 27) dX3_ofLoaf_19 (by decide) ?_
    exact r_ireturn dX3_ofLoaf_27 rfl rfl (⟨by rw [if_pos c10, ti]; exact mQ.z rfl rfl m0, t0, rfl⟩)
theorem k_numeratorOf {p : Int32} (hb : k_b K ≤ a) (m : mS a V R A h) (w : wB u (R 1)) : g_Met K mX3_numeratorOf 4 0 0 [.ref a, .int p] h n (gI fun r h' n' => mQ a V R A (if ix p (R 1 0) then 0 else 1) (R 1 (10 + 2 * tN p + 0)) r h' ∧ mT a h h' ∧ n' = n) gN := by
  refine g_Met.of (M := mX3_numeratorOf) (L := [some (.ref a), some (.int p)]) (by decide +kernel) (Nat.le_of_ble_eq_true rfl) rfl ?_
  refine r_aload0 dX3_numeratorOf_0 ?_
  refine r_iload1 dX3_numeratorOf_1 ?_
  refine r_iconst (v := nI 0) dX3_numeratorOf_2 (by decide) ?_
  refine r_callV (M' := mX3_ofDough) _ dX3_numeratorOf_3 q3699 q3701 qs95 rfl (lw_all_tbl q3702) q138 (by exact pl_X3_ofDough) gc_X3 (by first | exact m.1 | exact m0.1 | exact m1.1 | exact m2.1 | exact m3.1 | assumption | exact g_us | (rw [g_un (by omega)]; assumption) | (rw [g_un (by omega)]; exact g_us) | (rw [g_un (by omega), g_un (by omega)]; assumption) | (rw [g_un (by omega), g_un (by omega)]; exact g_us) | (rw [g_un (by omega), g_un (by omega), g_un (by omega)]; assumption) | ((repeat (rw [g_un (by omega)])); first | exact m.1 | exact m0.1 | exact m1.1 | exact m2.1 | exact m3.1 | exact g_us | assumption)) ((k_ofDough hb m w (by decide))) (by omega) (Nat.le_of_ble_eq_true rfl) (by omega) (by omega) rfl (Nat.le_of_ble_eq_true rfl) rfl (kI fun r3 h3 n3 e3 => ?_) kN
  exact r_ireturn dX3_numeratorOf_6 rfl rfl (e3)
theorem k_denominatorOf {p : Int32} (hb : k_b K ≤ a) (m : mS a V R A h) (w : wB u (R 1)) : g_Met K mX3_denominatorOf 4 0 0 [.ref a, .int p] h n (gI fun r h' n' => mQ a V R A (if ix p (R 1 0) then 0 else 1) (R 1 (10 + 2 * tN p + 1)) r h' ∧ mT a h h' ∧ n' = n) gN := by
  refine g_Met.of (M := mX3_denominatorOf) (L := [some (.ref a), some (.int p)]) (by decide +kernel) (Nat.le_of_ble_eq_true rfl) rfl ?_
  refine r_aload0 dX3_denominatorOf_0 ?_
  refine r_iload1 dX3_denominatorOf_1 ?_
  refine r_iconst (v := nI 1) dX3_denominatorOf_2 (by decide) ?_
  refine r_callV (M' := mX3_ofDough) _ dX3_denominatorOf_3 q3699 q3701 qs95 rfl (lw_all_tbl q3702) q138 (by exact pl_X3_ofDough) gc_X3 (by first | exact m.1 | exact m0.1 | exact m1.1 | exact m2.1 | exact m3.1 | assumption | exact g_us | (rw [g_un (by omega)]; assumption) | (rw [g_un (by omega)]; exact g_us) | (rw [g_un (by omega), g_un (by omega)]; assumption) | (rw [g_un (by omega), g_un (by omega)]; exact g_us) | (rw [g_un (by omega), g_un (by omega), g_un (by omega)]; assumption) | ((repeat (rw [g_un (by omega)])); first | exact m.1 | exact m0.1 | exact m1.1 | exact m2.1 | exact m3.1 | exact g_us | assumption)) ((k_ofDough hb m w (by decide))) (by omega) (Nat.le_of_ble_eq_true rfl) (by omega) (by omega) rfl (Nat.le_of_ble_eq_true rfl) rfl (kI fun r3 h3 n3 e3 => ?_) kN
  exact r_ireturn dX3_denominatorOf_6 rfl rfl (e3)
theorem k_capacityOf {p : Int32} (hb : k_b K ≤ a) (m : mS a V R A h) (w : wB u (R 1)) : g_Met K mX3_capacityOf 4 0 0 [.ref a, .int p] h n (gI fun r h' n' => mQ a V R A (if ix p (R 1 1) then 0 else 1) (R 1 (22 + 2 * tN p + 0)) r h' ∧ mT a h h' ∧ n' = n) gN := by
  refine g_Met.of (M := mX3_capacityOf) (L := [some (.ref a), some (.int p)]) (by decide +kernel) (Nat.le_of_ble_eq_true rfl) rfl ?_
  refine r_aload0 dX3_capacityOf_0 ?_
  refine r_iload1 dX3_capacityOf_1 ?_
  refine r_iconst (v := nI 0) dX3_capacityOf_2 (by decide) ?_
  refine r_callV (M' := mX3_ofBowl) _ dX3_capacityOf_3 q3757 q3759 qs100 rfl (lw_all_tbl q3760) q138 (by exact pl_X3_ofBowl) gc_X3 (by first | exact m.1 | exact m0.1 | exact m1.1 | exact m2.1 | exact m3.1 | assumption | exact g_us | (rw [g_un (by omega)]; assumption) | (rw [g_un (by omega)]; exact g_us) | (rw [g_un (by omega), g_un (by omega)]; assumption) | (rw [g_un (by omega), g_un (by omega)]; exact g_us) | (rw [g_un (by omega), g_un (by omega), g_un (by omega)]; assumption) | ((repeat (rw [g_un (by omega)])); first | exact m.1 | exact m0.1 | exact m1.1 | exact m2.1 | exact m3.1 | exact g_us | assumption)) ((k_ofBowl hb m w (by decide))) (by omega) (Nat.le_of_ble_eq_true rfl) (by omega) (by omega) rfl (Nat.le_of_ble_eq_true rfl) rfl (kI fun r3 h3 n3 e3 => ?_) kN
  exact r_ireturn dX3_capacityOf_6 rfl rfl (e3)
theorem k_contentOf {p : Int32} (hb : k_b K ≤ a) (m : mS a V R A h) (w : wB u (R 1)) : g_Met K mX3_contentOf 4 0 0 [.ref a, .int p] h n (gI fun r h' n' => mQ a V R A (if ix p (R 1 1) then 0 else 1) (R 1 (22 + 2 * tN p + 1)) r h' ∧ mT a h h' ∧ n' = n) gN := by
  refine g_Met.of (M := mX3_contentOf) (L := [some (.ref a), some (.int p)]) (by decide +kernel) (Nat.le_of_ble_eq_true rfl) rfl ?_
  refine r_aload0 dX3_contentOf_0 ?_
  refine r_iload1 dX3_contentOf_1 ?_
  refine r_iconst (v := nI 1) dX3_contentOf_2 (by decide) ?_
  refine r_callV (M' := mX3_ofBowl) _ dX3_contentOf_3 q3757 q3759 qs100 rfl (lw_all_tbl q3760) q138 (by exact pl_X3_ofBowl) gc_X3 (by first | exact m.1 | exact m0.1 | exact m1.1 | exact m2.1 | exact m3.1 | assumption | exact g_us | (rw [g_un (by omega)]; assumption) | (rw [g_un (by omega)]; exact g_us) | (rw [g_un (by omega), g_un (by omega)]; assumption) | (rw [g_un (by omega), g_un (by omega)]; exact g_us) | (rw [g_un (by omega), g_un (by omega), g_un (by omega)]; assumption) | ((repeat (rw [g_un (by omega)])); first | exact m.1 | exact m0.1 | exact m1.1 | exact m2.1 | exact m3.1 | exact g_us | assumption)) ((k_ofBowl hb m w (by decide))) (by omega) (Nat.le_of_ble_eq_true rfl) (by omega) (by omega) rfl (Nat.le_of_ble_eq_true rfl) rfl (kI fun r3 h3 n3 e3 => ?_) kN
  exact r_ireturn dX3_contentOf_6 rfl rfl (e3)
theorem k_weightOf {p : Int32} (hb : k_b K ≤ a) (m : mS a V R A h) (w : wB u (R 1)) : g_Met K mX3_weightOf 4 0 0 [.ref a, .int p] h n (gI fun r h' n' => mQ a V R A (if ix p (R 1 2) then 0 else 1) (R 1 (32 + 3 * tN p + 0)) r h' ∧ mT a h h' ∧ n' = n) gN := by
  refine g_Met.of (M := mX3_weightOf) (L := [some (.ref a), some (.int p)]) (by decide +kernel) (Nat.le_of_ble_eq_true rfl) rfl ?_
  refine r_aload0 dX3_weightOf_0 ?_
  refine r_iload1 dX3_weightOf_1 ?_
  refine r_iconst (v := nI 0) dX3_weightOf_2 (by decide) ?_
  refine r_callV (M' := mX3_ofLoaf) _ dX3_weightOf_3 q3781 q3783 qs101 rfl (lw_all_tbl q3784) q138 (by exact pl_X3_ofLoaf) gc_X3 (by first | exact m.1 | exact m0.1 | exact m1.1 | exact m2.1 | exact m3.1 | assumption | exact g_us | (rw [g_un (by omega)]; assumption) | (rw [g_un (by omega)]; exact g_us) | (rw [g_un (by omega), g_un (by omega)]; assumption) | (rw [g_un (by omega), g_un (by omega)]; exact g_us) | (rw [g_un (by omega), g_un (by omega), g_un (by omega)]; assumption) | ((repeat (rw [g_un (by omega)])); first | exact m.1 | exact m0.1 | exact m1.1 | exact m2.1 | exact m3.1 | exact g_us | assumption)) ((k_ofLoaf hb m w (by decide))) (by omega) (Nat.le_of_ble_eq_true rfl) (by omega) (by omega) rfl (Nat.le_of_ble_eq_true rfl) rfl (kI fun r3 h3 n3 e3 => ?_) kN
  exact r_ireturn dX3_weightOf_6 rfl rfl (e3)
theorem k_minutesOf {p : Int32} (hb : k_b K ≤ a) (m : mS a V R A h) (w : wB u (R 1)) : g_Met K mX3_minutesOf 4 0 0 [.ref a, .int p] h n (gI fun r h' n' => mQ a V R A (if ix p (R 1 2) then 0 else 1) (R 1 (32 + 3 * tN p + 1)) r h' ∧ mT a h h' ∧ n' = n) gN := by
  refine g_Met.of (M := mX3_minutesOf) (L := [some (.ref a), some (.int p)]) (by decide +kernel) (Nat.le_of_ble_eq_true rfl) rfl ?_
  refine r_aload0 dX3_minutesOf_0 ?_
  refine r_iload1 dX3_minutesOf_1 ?_
  refine r_iconst (v := nI 1) dX3_minutesOf_2 (by decide) ?_
  refine r_callV (M' := mX3_ofLoaf) _ dX3_minutesOf_3 q3781 q3783 qs101 rfl (lw_all_tbl q3784) q138 (by exact pl_X3_ofLoaf) gc_X3 (by first | exact m.1 | exact m0.1 | exact m1.1 | exact m2.1 | exact m3.1 | assumption | exact g_us | (rw [g_un (by omega)]; assumption) | (rw [g_un (by omega)]; exact g_us) | (rw [g_un (by omega), g_un (by omega)]; assumption) | (rw [g_un (by omega), g_un (by omega)]; exact g_us) | (rw [g_un (by omega), g_un (by omega), g_un (by omega)]; assumption) | ((repeat (rw [g_un (by omega)])); first | exact m.1 | exact m0.1 | exact m1.1 | exact m2.1 | exact m3.1 | exact g_us | assumption)) ((k_ofLoaf hb m w (by decide))) (by omega) (Nat.le_of_ble_eq_true rfl) (by omega) (by omega) rfl (Nat.le_of_ble_eq_true rfl) rfl (kI fun r3 h3 n3 e3 => ?_) kN
  exact r_ireturn dX3_minutesOf_6 rfl rfl (e3)
theorem k_crumbsOf {p : Int32} (hb : k_b K ≤ a) (m : mS a V R A h) (w : wB u (R 1)) : g_Met K mX3_crumbsOf 4 0 0 [.ref a, .int p] h n (gI fun r h' n' => mQ a V R A (if ix p (R 1 2) then 0 else 1) (R 1 (32 + 3 * tN p + 2)) r h' ∧ mT a h h' ∧ n' = n) gN := by
  refine g_Met.of (M := mX3_crumbsOf) (L := [some (.ref a), some (.int p)]) (by decide +kernel) (Nat.le_of_ble_eq_true rfl) rfl ?_
  refine r_aload0 dX3_crumbsOf_0 ?_
  refine r_iload1 dX3_crumbsOf_1 ?_
  refine r_iconst (v := nI 2) dX3_crumbsOf_2 (by decide) ?_
  refine r_callV (M' := mX3_ofLoaf) _ dX3_crumbsOf_3 q3781 q3783 qs101 rfl (lw_all_tbl q3784) q138 (by exact pl_X3_ofLoaf) gc_X3 (by first | exact m.1 | exact m0.1 | exact m1.1 | exact m2.1 | exact m3.1 | assumption | exact g_us | (rw [g_un (by omega)]; assumption) | (rw [g_un (by omega)]; exact g_us) | (rw [g_un (by omega), g_un (by omega)]; assumption) | (rw [g_un (by omega), g_un (by omega)]; exact g_us) | (rw [g_un (by omega), g_un (by omega), g_un (by omega)]; assumption) | ((repeat (rw [g_un (by omega)])); first | exact m.1 | exact m0.1 | exact m1.1 | exact m2.1 | exact m3.1 | exact g_us | assumption)) ((k_ofLoaf hb m w (by decide))) (by omega) (Nat.le_of_ble_eq_true rfl) (by omega) (by omega) rfl (Nat.le_of_ble_eq_true rfl) rfl (kI fun r3 h3 n3 e3 => ?_) kN
  exact r_ireturn dX3_crumbsOf_6 rfl rfl (e3)
theorem k_crumbsIn {p : Int32} (hb : k_b K ≤ a) (m : mS a V R A h) (w : wB u (R 1)) : g_Met K mX3_crumbsIn 4 0 0 [.ref a, .int p] h n (gI fun r h' n' => mQ a V R A (if ix p (R 1 0) then 0 else 1) (crm (R 1) (tN p)) r h' ∧ mT a h h' ∧ n' = n) gN := by
  have b := w.b
  refine g_Met.of (M := mX3_crumbsIn) (L := [some (.ref a), some (.int p)]) (by decide +kernel) (Nat.le_of_ble_eq_true rfl) rfl ?_
  refine r_aload0 dX3_crumbsIn_0 ?_
  refine r_iconst (v := nI 0) dX3_crumbsIn_1 (by decide) ?_
  refine p_X3_1_X3 dX3_crumbsIn_2 (by omega) (by first | exact m.1 | exact m0.1 | exact m1.1 | exact m2.1 | exact m3.1 | assumption | exact g_us | (rw [g_un (by omega)]; assumption) | (rw [g_un (by omega)]; exact g_us) | (rw [g_un (by omega), g_un (by omega)]; assumption) | (rw [g_un (by omega), g_un (by omega)]; exact g_us) | (rw [g_un (by omega), g_un (by omega), g_un (by omega)]; assumption) | ((repeat (rw [g_un (by omega)])); first | exact m.1 | exact m0.1 | exact m1.1 | exact m2.1 | exact m3.1 | exact g_us | assumption)) ?_
  refine m.goZ (fun h0 m0 t0 => ?_)
  refine r_aload0 dX3_crumbsIn_5 ?_
  refine r_iload1 dX3_crumbsIn_6 ?_
  refine r_callV (M' := mX3_isDough) _ dX3_crumbsIn_7 q3524 q3526 qs64 rfl (lw_all_tbl q3527) q138 (by exact pl_X3_isDough) gc_X3 (by first | exact m.1 | exact m0.1 | exact m1.1 | exact m2.1 | exact m3.1 | assumption | exact g_us | (rw [g_un (by omega)]; assumption) | (rw [g_un (by omega)]; exact g_us) | (rw [g_un (by omega), g_un (by omega)]; assumption) | (rw [g_un (by omega), g_un (by omega)]; exact g_us) | (rw [g_un (by omega), g_un (by omega), g_un (by omega)]; assumption) | ((repeat (rw [g_un (by omega)])); first | exact m.1 | exact m0.1 | exact m1.1 | exact m2.1 | exact m3.1 | exact g_us | assumption)) ((k_isDough m0 w)) (by omega) (Nat.le_of_ble_eq_true rfl) (by omega) (by omega) rfl (Nat.le_of_ble_eq_true rfl) rfl (kI fun r7 h7 n7 e7 => ?_) kN
  obtain ⟨rfl, rfl, rfl⟩ := e7
  refine r_if_eqB (tgt := 21) dX3_crumbsIn_10 (by decide) (fun c10 => ?_) (fun c10 => ?_)
  · refine r_aload0 dX3_crumbsIn_21 ?_
    refine r_iconst (v := nI 1) dX3_crumbsIn_22 (by decide) ?_
    refine r_callV (M' := mX3_fails) _ dX3_crumbsIn_23 q3489 q3491 qs57 rfl (lw_all_tbl q3492) q138 (by exact pl_X3_fails) gc_X3 (by first | exact m.1 | exact m0.1 | exact m1.1 | exact m2.1 | exact m3.1 | assumption | exact g_us | (rw [g_un (by omega)]; assumption) | (rw [g_un (by omega)]; exact g_us) | (rw [g_un (by omega), g_un (by omega)]; assumption) | (rw [g_un (by omega), g_un (by omega)]; exact g_us) | (rw [g_un (by omega), g_un (by omega), g_un (by omega)]; assumption) | ((repeat (rw [g_un (by omega)])); first | exact m.1 | exact m0.1 | exact m1.1 | exact m2.1 | exact m3.1 | exact g_us | assumption)) ((k_fails hb m0)) (by omega) (Nat.le_of_ble_eq_true rfl) (by omega) (by omega) rfl (Nat.le_of_ble_eq_true rfl) rfl (kI fun r23 h23 n23 e23 => ?_) kN
    obtain ⟨rfl, m1, t1, rfl⟩ := e23
    exact r_ireturn dX3_crumbsIn_26 rfl rfl (⟨by rw [if_neg c10]; exact mQ.no (by decide) m1, t0.tr t1, rfl⟩)
  · obtain ⟨i, hi, rfl, ti⟩ := ix_ex c10
    refine r_aload0 dX3_crumbsIn_13 ?_
    refine r_iload1 dX3_crumbsIn_14 ?_
    refine r_callV (M' := mX3_crumbs) _ dX3_crumbsIn_15 q3631 q3633 qs84 rfl (lw_all_tbl q3634) q138 (by exact pl_X3_crumbs) gc_X3 (by first | exact m.1 | exact m0.1 | exact m1.1 | exact m2.1 | exact m3.1 | assumption | exact g_us | (rw [g_un (by omega)]; assumption) | (rw [g_un (by omega)]; exact g_us) | (rw [g_un (by omega), g_un (by omega)]; assumption) | (rw [g_un (by omega), g_un (by omega)]; exact g_us) | (rw [g_un (by omega), g_un (by omega), g_un (by omega)]; assumption) | ((repeat (rw [g_un (by omega)])); first | exact m.1 | exact m0.1 | exact m1.1 | exact m2.1 | exact m3.1 | exact g_us | assumption)) ((k_crumbs m0 w hi)) (by omega) (Nat.le_of_ble_eq_true rfl) (by omega) (by omega) rfl (Nat.le_of_ble_eq_true rfl) rfl (kI fun r15 h15 n15 e15 => ?_) kN
    obtain ⟨rfl, rfl, rfl⟩ := e15
    refine r_goto (tgt := 26) dX3_crumbsIn_18 (by decide) ?_
    exact r_ireturn dX3_crumbsIn_26 rfl rfl (⟨by rw [if_pos c10, ti]; exact mQ.z rfl rfl m0, t0, rfl⟩)
theorem k_crumbsByDigits {p : Int32} (hb : k_b K ≤ a) (m : mS a V R A h) (w : wB u (R 1)) : g_Met K mX3_crumbsByDigits 5 0 0 [.ref a, .int p] h n (gI fun r h' n' => mQ a V R A (if ix p (R 1 0) then 0 else 1) (crm (R 1) (tN p)) r h' ∧ mT a h h' ∧ n' = n) gN := by
  refine g_Met.of (M := mX3_crumbsByDigits) (L := [some (.ref a), some (.int p)]) (by decide +kernel) (Nat.le_of_ble_eq_true rfl) rfl ?_
  refine r_aload0 dX3_crumbsByDigits_0 ?_
  refine r_iload1 dX3_crumbsByDigits_1 ?_
  refine r_callV (M' := mX3_crumbsIn) _ dX3_crumbsByDigits_2 q3715 q3708 q3709 rfl (lw_all_tbl q3710) q138 (by exact pl_X3_crumbsIn) gc_X3 (by first | exact m.1 | exact m0.1 | exact m1.1 | exact m2.1 | exact m3.1 | assumption | exact g_us | (rw [g_un (by omega)]; assumption) | (rw [g_un (by omega)]; exact g_us) | (rw [g_un (by omega), g_un (by omega)]; assumption) | (rw [g_un (by omega), g_un (by omega)]; exact g_us) | (rw [g_un (by omega), g_un (by omega), g_un (by omega)]; assumption) | ((repeat (rw [g_un (by omega)])); first | exact m.1 | exact m0.1 | exact m1.1 | exact m2.1 | exact m3.1 | exact g_us | assumption)) ((k_crumbsIn hb m w)) (by omega) (Nat.le_of_ble_eq_true rfl) (by omega) (by omega) rfl (Nat.le_of_ble_eq_true rfl) rfl (kI fun r2 h2 n2 e2 => ?_) kN
  exact r_ireturn dX3_crumbsByDigits_5 rfl rfl (e2)
theorem k_share {p q : Int32} (hb : k_b K ≤ a) (m : mS a V R A h) (w : wB u (R 1)) : g_Met K mX3_share 6 0 0 [.ref a, .int p, .int q] h n (gI fun r h' n' => mQ a V R A (if ix p (R 1 1) ∧ ix q (R 1 2) then 0 else 1) (shr (R 1) (R 1 (23 + 2 * tN p)) (tN q)) r h' ∧ mT a h h' ∧ n' = n) gN := by
  have b := w.b
  refine g_Met.of (M := mX3_share) (L := [some (.ref a), some (.int p), some (.int q)]) (by decide +kernel) (Nat.le_of_ble_eq_true rfl) rfl ?_
  refine r_aload0 dX3_share_0 ?_
  refine r_iconst (v := nI 0) dX3_share_1 (by decide) ?_
  refine p_X3_1_X3 dX3_share_2 (by omega) (by first | exact m.1 | exact m0.1 | exact m1.1 | exact m2.1 | exact m3.1 | assumption | exact g_us | (rw [g_un (by omega)]; assumption) | (rw [g_un (by omega)]; exact g_us) | (rw [g_un (by omega), g_un (by omega)]; assumption) | (rw [g_un (by omega), g_un (by omega)]; exact g_us) | (rw [g_un (by omega), g_un (by omega), g_un (by omega)]; assumption) | ((repeat (rw [g_un (by omega)])); first | exact m.1 | exact m0.1 | exact m1.1 | exact m2.1 | exact m3.1 | exact g_us | assumption)) ?_
  refine m.goZ (fun h0 m0 t0 => ?_)
  refine r_aload0 dX3_share_5 ?_
  refine r_iload1 dX3_share_6 ?_
  refine r_callV (M' := mX3_isBowl) _ dX3_share_7 q3623 q3625 qs82 rfl (lw_all_tbl q3626) q138 (by exact pl_X3_isBowl) gc_X3 (by first | exact m.1 | exact m0.1 | exact m1.1 | exact m2.1 | exact m3.1 | assumption | exact g_us | (rw [g_un (by omega)]; assumption) | (rw [g_un (by omega)]; exact g_us) | (rw [g_un (by omega), g_un (by omega)]; assumption) | (rw [g_un (by omega), g_un (by omega)]; exact g_us) | (rw [g_un (by omega), g_un (by omega), g_un (by omega)]; assumption) | ((repeat (rw [g_un (by omega)])); first | exact m.1 | exact m0.1 | exact m1.1 | exact m2.1 | exact m3.1 | exact g_us | assumption)) ((k_isBowl m0 w)) (by omega) (Nat.le_of_ble_eq_true rfl) (by omega) (by omega) rfl (Nat.le_of_ble_eq_true rfl) rfl (kI fun r7 h7 n7 e7 => ?_) kN
  obtain ⟨rfl, rfl, rfl⟩ := e7
  refine r_if_eqB (tgt := 35) dX3_share_10 (by decide) (fun c10 => ?_) (fun c10 => ?_)
  · refine r_aload0 dX3_share_35 ?_
    refine r_iconst (v := nI 1) dX3_share_36 (by decide) ?_
    refine r_callV (M' := mX3_fails) _ dX3_share_37 q3489 q3491 qs57 rfl (lw_all_tbl q3492) q138 (by exact pl_X3_fails) gc_X3 (by first | exact m.1 | exact m0.1 | exact m1.1 | exact m2.1 | exact m3.1 | assumption | exact g_us | (rw [g_un (by omega)]; assumption) | (rw [g_un (by omega)]; exact g_us) | (rw [g_un (by omega), g_un (by omega)]; assumption) | (rw [g_un (by omega), g_un (by omega)]; exact g_us) | (rw [g_un (by omega), g_un (by omega), g_un (by omega)]; assumption) | ((repeat (rw [g_un (by omega)])); first | exact m.1 | exact m0.1 | exact m1.1 | exact m2.1 | exact m3.1 | exact g_us | assumption)) ((k_fails hb m0)) (by omega) (Nat.le_of_ble_eq_true rfl) (by omega) (by omega) rfl (Nat.le_of_ble_eq_true rfl) rfl (kI fun r37 h37 n37 e37 => ?_) kN
    obtain ⟨rfl, m1, t1, rfl⟩ := e37
    exact r_ireturn dX3_share_40 rfl rfl (⟨by rw [if_neg (fun z => c10 z.1)]; exact mQ.no (by decide) m1, t0.tr t1, rfl⟩)
  · refine r_aload0 dX3_share_13 ?_
    refine r_iload2 dX3_share_14 ?_
    refine r_callV (M' := mX3_isLoaf) _ dX3_share_15 q3572 q3574 qs73 rfl (lw_all_tbl q3575) q138 (by exact pl_X3_isLoaf) gc_X3 (by first | exact m.1 | exact m0.1 | exact m1.1 | exact m2.1 | exact m3.1 | assumption | exact g_us | (rw [g_un (by omega)]; assumption) | (rw [g_un (by omega)]; exact g_us) | (rw [g_un (by omega), g_un (by omega)]; assumption) | (rw [g_un (by omega), g_un (by omega)]; exact g_us) | (rw [g_un (by omega), g_un (by omega), g_un (by omega)]; assumption) | ((repeat (rw [g_un (by omega)])); first | exact m.1 | exact m0.1 | exact m1.1 | exact m2.1 | exact m3.1 | exact g_us | assumption)) ((k_isLoaf m0 w)) (by omega) (Nat.le_of_ble_eq_true rfl) (by omega) (by omega) rfl (Nat.le_of_ble_eq_true rfl) rfl (kI fun r15 h15 n15 e15 => ?_) kN
    obtain ⟨rfl, rfl, rfl⟩ := e15
    refine r_if_eqB (tgt := 35) dX3_share_18 (by decide) (fun c18 => ?_) (fun c18 => ?_)
    · refine r_aload0 dX3_share_35 ?_
      refine r_iconst (v := nI 1) dX3_share_36 (by decide) ?_
      refine r_callV (M' := mX3_fails) _ dX3_share_37 q3489 q3491 qs57 rfl (lw_all_tbl q3492) q138 (by exact pl_X3_fails) gc_X3 (by first | exact m.1 | exact m0.1 | exact m1.1 | exact m2.1 | exact m3.1 | assumption | exact g_us | (rw [g_un (by omega)]; assumption) | (rw [g_un (by omega)]; exact g_us) | (rw [g_un (by omega), g_un (by omega)]; assumption) | (rw [g_un (by omega), g_un (by omega)]; exact g_us) | (rw [g_un (by omega), g_un (by omega), g_un (by omega)]; assumption) | ((repeat (rw [g_un (by omega)])); first | exact m.1 | exact m0.1 | exact m1.1 | exact m2.1 | exact m3.1 | exact g_us | assumption)) ((k_fails hb m0)) (by omega) (Nat.le_of_ble_eq_true rfl) (by omega) (by omega) rfl (Nat.le_of_ble_eq_true rfl) rfl (kI fun r37 h37 n37 e37 => ?_) kN
      obtain ⟨rfl, m1, t1, rfl⟩ := e37
      exact r_ireturn dX3_share_40 rfl rfl (⟨by rw [if_neg (fun z => c18 z.2)]; exact mQ.no (by decide) m1, t0.tr t1, rfl⟩)
    · obtain ⟨i, hi, rfl, ti⟩ := ix_ex c10
      obtain ⟨j, hj, rfl, tj⟩ := ix_ex c18
      have b1 := w.o hi
      refine r_aload0 dX3_share_21 ?_
      refine r_aload0 dX3_share_22 ?_
      refine r_iload1 dX3_share_23 ?_
      refine r_iconst (v := nI 1) dX3_share_24 (by decide) ?_
      refine r_callV (M' := mX3_bowl) _ dX3_share_25 q3596 q3598 qs78 rfl (lw_all_tbl q3599) q138 (by exact pl_X3_bowl) gc_X3 (by first | exact m.1 | exact m0.1 | exact m1.1 | exact m2.1 | exact m3.1 | assumption | exact g_us | (rw [g_un (by omega)]; assumption) | (rw [g_un (by omega)]; exact g_us) | (rw [g_un (by omega), g_un (by omega)]; assumption) | (rw [g_un (by omega), g_un (by omega)]; exact g_us) | (rw [g_un (by omega), g_un (by omega), g_un (by omega)]; assumption) | ((repeat (rw [g_un (by omega)])); first | exact m.1 | exact m0.1 | exact m1.1 | exact m2.1 | exact m3.1 | exact g_us | assumption)) ((k_bowl m0 (by omega) (by decide))) (by omega) (Nat.le_of_ble_eq_true rfl) (by omega) (by omega) rfl (Nat.le_of_ble_eq_true rfl) rfl (kI fun r25 h25 n25 e25 => ?_) kN
      obtain ⟨rfl, rfl, rfl⟩ := e25
      rw [show 22 + 2 * i + 1 = 23 + 2 * i by omega]
      refine r_iload2 dX3_share_28 ?_
      refine r_callV (M' := mX3_shared) _ dX3_share_29 q3664 q3666 qs90 rfl (lw_all_tbl q3667) q138 (by exact pl_X3_shared) gc_X3 (by first | exact m.1 | exact m0.1 | exact m1.1 | exact m2.1 | exact m3.1 | assumption | exact g_us | (rw [g_un (by omega)]; assumption) | (rw [g_un (by omega)]; exact g_us) | (rw [g_un (by omega), g_un (by omega)]; assumption) | (rw [g_un (by omega), g_un (by omega)]; exact g_us) | (rw [g_un (by omega), g_un (by omega), g_un (by omega)]; assumption) | ((repeat (rw [g_un (by omega)])); first | exact m.1 | exact m0.1 | exact m1.1 | exact m2.1 | exact m3.1 | exact g_us | assumption)) ((k_shared m0 w (by omega) hj)) (by omega) (Nat.le_of_ble_eq_true rfl) (by omega) (by omega) rfl (Nat.le_of_ble_eq_true rfl) rfl (kI fun r29 h29 n29 e29 => ?_) kN
      obtain ⟨rfl, rfl, rfl⟩ := e29
      refine r_goto (tgt := 40) dX3_share_32 (by decide) ?_
      exact r_ireturn dX3_share_40 rfl rfl (⟨by rw [if_pos ⟨c10, c18⟩, ti, tj]; exact mQ.z rfl rfl m0, t0, rfl⟩)
theorem k_shareByRanks {p q : Int32} (hb : k_b K ≤ a) (m : mS a V R A h) (w : wB u (R 1)) : g_Met K mX3_shareByRanks 7 0 0 [.ref a, .int p, .int q] h n (gI fun r h' n' => mQ a V R A (if ix p (R 1 1) ∧ ix q (R 1 2) then 0 else 1) (shr (R 1) (R 1 (23 + 2 * tN p)) (tN q)) r h' ∧ mT a h h' ∧ n' = n) gN := by
  refine g_Met.of (M := mX3_shareByRanks) (L := [some (.ref a), some (.int p), some (.int q)]) (by decide +kernel) (Nat.le_of_ble_eq_true rfl) rfl ?_
  refine r_aload0 dX3_shareByRanks_0 ?_
  refine r_iload1 dX3_shareByRanks_1 ?_
  refine r_iload2 dX3_shareByRanks_2 ?_
  refine r_callV (M' := mX3_share) _ dX3_shareByRanks_3 q3801 q3794 q3795 rfl (lw_all_tbl q3796) q138 (by exact pl_X3_share) gc_X3 (by first | exact m.1 | exact m0.1 | exact m1.1 | exact m2.1 | exact m3.1 | assumption | exact g_us | (rw [g_un (by omega)]; assumption) | (rw [g_un (by omega)]; exact g_us) | (rw [g_un (by omega), g_un (by omega)]; assumption) | (rw [g_un (by omega), g_un (by omega)]; exact g_us) | (rw [g_un (by omega), g_un (by omega), g_un (by omega)]; assumption) | ((repeat (rw [g_un (by omega)])); first | exact m.1 | exact m0.1 | exact m1.1 | exact m2.1 | exact m3.1 | exact g_us | assumption)) ((k_share hb m w)) (by omega) (Nat.le_of_ble_eq_true rfl) (by omega) (by omega) rfl (Nat.le_of_ble_eq_true rfl) rfl (kI fun r3 h3 n3 e3 => ?_) kN
  exact r_ireturn dX3_shareByRanks_6 rfl rfl (e3)
/-! ranks -/
theorem k_isMore {i j : Nat} (m : mS a V R A h) (w : wB u (R 1)) (hi : i < R 1 0) (hj : j < R 1 0) : g_Met K mX3_isMore 3 0 0 [.ref a, .int (nI i), .int (nI j)] h n (gI fun r h' n' => r = nB (dMo (R 1) i j) ∧ h' = h ∧ n' = n) gN := by
  have b := w.b
  have d1 := dM_b w hi hj
  have d2 := dM_b w hj hi
  have x1 : 11 + 2 * i = 10 + 2 * i + 1 := by omega
  have x2 : 11 + 2 * j = 10 + 2 * j + 1 := by omega
  rw [x2] at d1
  rw [x1] at d2
  refine g_Met.of (M := mX3_isMore) (L := [some (.ref a), some (.int (nI i)), some (.int (nI j))]) (by decide +kernel) (Nat.le_of_ble_eq_true rfl) rfl ?_
  refine r_aload0 dX3_isMore_0 ?_
  refine r_iload1 dX3_isMore_1 ?_
  refine r_iconst (v := nI 0) dX3_isMore_2 (by decide) ?_
  refine r_callV (M' := mX3_dough) _ dX3_isMore_3 q3532 q3534 qs66 rfl (lw_all_tbl q3535) q138 (by exact pl_X3_dough) gc_X3 (by first | exact m.1 | exact m0.1 | exact m1.1 | exact m2.1 | exact m3.1 | assumption | exact g_us | (rw [g_un (by omega)]; assumption) | (rw [g_un (by omega)]; exact g_us) | (rw [g_un (by omega), g_un (by omega)]; assumption) | (rw [g_un (by omega), g_un (by omega)]; exact g_us) | (rw [g_un (by omega), g_un (by omega), g_un (by omega)]; assumption) | ((repeat (rw [g_un (by omega)])); first | exact m.1 | exact m0.1 | exact m1.1 | exact m2.1 | exact m3.1 | exact g_us | assumption)) ((k_dough m (by omega) (by decide))) (by omega) (Nat.le_of_ble_eq_true rfl) (by omega) (by omega) rfl (Nat.le_of_ble_eq_true rfl) rfl (kI fun r3 h3 n3 e3 => ?_) kN
  obtain ⟨rfl, rfl, rfl⟩ := e3
  refine r_aload0 dX3_isMore_6 ?_
  refine r_iload2 dX3_isMore_7 ?_
  refine r_iconst (v := nI 1) dX3_isMore_8 (by decide) ?_
  refine r_callV (M' := mX3_dough) _ dX3_isMore_9 q3532 q3534 qs66 rfl (lw_all_tbl q3535) q138 (by exact pl_X3_dough) gc_X3 (by first | exact m.1 | exact m0.1 | exact m1.1 | exact m2.1 | exact m3.1 | assumption | exact g_us | (rw [g_un (by omega)]; assumption) | (rw [g_un (by omega)]; exact g_us) | (rw [g_un (by omega), g_un (by omega)]; assumption) | (rw [g_un (by omega), g_un (by omega)]; exact g_us) | (rw [g_un (by omega), g_un (by omega), g_un (by omega)]; assumption) | ((repeat (rw [g_un (by omega)])); first | exact m.1 | exact m0.1 | exact m1.1 | exact m2.1 | exact m3.1 | exact g_us | assumption)) ((k_dough m (by omega) (by decide))) (by omega) (Nat.le_of_ble_eq_true rfl) (by omega) (by omega) rfl (Nat.le_of_ble_eq_true rfl) rfl (kI fun r9 h9 n9 e9 => ?_) kN
  obtain ⟨rfl, rfl, rfl⟩ := e9
  refine r_imul dX3_isMore_12 (by first | exact pk_mul _ _ | rfl) ?_
  refine r_aload0 dX3_isMore_13 ?_
  refine r_iload2 dX3_isMore_14 ?_
  refine r_iconst (v := nI 0) dX3_isMore_15 (by decide) ?_
  refine r_callV (M' := mX3_dough) _ dX3_isMore_16 q3532 q3534 qs66 rfl (lw_all_tbl q3535) q138 (by exact pl_X3_dough) gc_X3 (by first | exact m.1 | exact m0.1 | exact m1.1 | exact m2.1 | exact m3.1 | assumption | exact g_us | (rw [g_un (by omega)]; assumption) | (rw [g_un (by omega)]; exact g_us) | (rw [g_un (by omega), g_un (by omega)]; assumption) | (rw [g_un (by omega), g_un (by omega)]; exact g_us) | (rw [g_un (by omega), g_un (by omega), g_un (by omega)]; assumption) | ((repeat (rw [g_un (by omega)])); first | exact m.1 | exact m0.1 | exact m1.1 | exact m2.1 | exact m3.1 | exact g_us | assumption)) ((k_dough m (by omega) (by decide))) (by omega) (Nat.le_of_ble_eq_true rfl) (by omega) (by omega) rfl (Nat.le_of_ble_eq_true rfl) rfl (kI fun r16 h16 n16 e16 => ?_) kN
  obtain ⟨rfl, rfl, rfl⟩ := e16
  refine r_aload0 dX3_isMore_19 ?_
  refine r_iload1 dX3_isMore_20 ?_
  refine r_iconst (v := nI 1) dX3_isMore_21 (by decide) ?_
  refine r_callV (M' := mX3_dough) _ dX3_isMore_22 q3532 q3534 qs66 rfl (lw_all_tbl q3535) q138 (by exact pl_X3_dough) gc_X3 (by first | exact m.1 | exact m0.1 | exact m1.1 | exact m2.1 | exact m3.1 | assumption | exact g_us | (rw [g_un (by omega)]; assumption) | (rw [g_un (by omega)]; exact g_us) | (rw [g_un (by omega), g_un (by omega)]; assumption) | (rw [g_un (by omega), g_un (by omega)]; exact g_us) | (rw [g_un (by omega), g_un (by omega), g_un (by omega)]; assumption) | ((repeat (rw [g_un (by omega)])); first | exact m.1 | exact m0.1 | exact m1.1 | exact m2.1 | exact m3.1 | exact g_us | assumption)) ((k_dough m (by omega) (by decide))) (by omega) (Nat.le_of_ble_eq_true rfl) (by omega) (by omega) rfl (Nat.le_of_ble_eq_true rfl) rfl (kI fun r22 h22 n22 e22 => ?_) kN
  obtain ⟨rfl, rfl, rfl⟩ := e22
  refine r_imul dX3_isMore_25 (by first | exact pk_mul _ _ | rfl) ?_
  simp only [Nat.add_zero]
  refine r_icmp_leN (tgt := 33) dX3_isMore_26 (by decide) (by omega) (by omega) (fun c26 => ?_) (fun c26 => ?_)
  · refine r_iconst (v := nI 0) dX3_isMore_33 (by decide) ?_
    exact r_ireturn dX3_isMore_34 rfl (by first | exact nB_nar | rfl) (⟨nB_f (by unfold dMo; rw [x1, x2]; exact Nat.not_lt.mpr c26), rfl, rfl⟩)
  · refine r_iconst (v := nI 1) dX3_isMore_29 (by decide) ?_
    refine r_goto (tgt := 34) dX3_isMore_30 (by decide) ?_
    exact r_ireturn dX3_isMore_34 rfl (by first | exact nB_nar | rfl) (⟨nB_t (by unfold dMo; rw [x1, x2]; exact Nat.not_le.mp c26), rfl, rfl⟩)
theorem k_doughByAmount {p : Int32} (hb : k_b K ≤ a) (m : mS a V R A h) (w : wB u (R 1)) : g_Met K mX3_doughByAmount 4 0 0 [.ref a, .int p] h n (gI fun r h' n' => mQ a V R A (fE (dAt (R 1) p)) (fR (dAt (R 1) p)) r h' ∧ mT a h h' ∧ n' = n) gN := by
  have b := w.b
  refine g_Met.of (M := mX3_doughByAmount) (L := [some (.ref a), some (.int p), none, none, none]) (by decide +kernel) (Nat.le_of_ble_eq_true rfl) rfl ?_
  have outer : ∀ (j k : Nat) (o3 o4 : Option Value) (h1 : g_P), g_c1 o3 → g_c1 o4 → k + j = R 1 0 → dAt (R 1) p = fnd (fun a => nI (rkD (R 1) a (R 1 0)) = p) k j → mS a (vZ V) R A h1 → mT a h h1 → g_G K mX3_doughByAmount 4 0 0 (gI fun r h' n' => mQ a V R A (fE (dAt (R 1) p)) (fR (dAt (R 1) p)) r h' ∧ mT a h h' ∧ n' = n) gN 7 [some (.ref a), some (.int p), some (.int (nI k)), o3, o4] [] h1 n := by
    intro j
    induction j with
    | zero =>
      intro k o3 o4 h1 q3 q4 hk hf m1 t0
      refine r_iload2 dX3_doughByAmount_7 ?_
      refine r_aload0 dX3_doughByAmount_8 ?_
      refine r_iconst (v := nI 0) dX3_doughByAmount_9 (by decide) ?_
      refine r_callV (M' := mX3_at) _ dX3_doughByAmount_10 q3485 q3487 qs56 rfl (lw_all_tbl q3488) q138 (by exact pl_X3_at) gc_X3 (by first | exact m.1 | exact m0.1 | exact m1.1 | exact m2.1 | exact m3.1 | assumption | exact g_us | (rw [g_un (by omega)]; assumption) | (rw [g_un (by omega)]; exact g_us) | (rw [g_un (by omega), g_un (by omega)]; assumption) | (rw [g_un (by omega), g_un (by omega)]; exact g_us) | (rw [g_un (by omega), g_un (by omega), g_un (by omega)]; assumption) | ((repeat (rw [g_un (by omega)])); first | exact m.1 | exact m0.1 | exact m1.1 | exact m2.1 | exact m3.1 | exact g_us | assumption)) ((k_at m1 (by decide) (by decide))) (by omega) (Nat.le_of_ble_eq_true rfl) (by omega) (by omega) rfl (Nat.le_of_ble_eq_true rfl) rfl (kI fun r10 h10 n10 e10 => ?_) kN
      obtain ⟨rfl, rfl, rfl⟩ := e10
      refine r_icmp_geN (tgt := 84) dX3_doughByAmount_13 (by decide) (by omega) (by omega) (fun c13 => ?_) (fun c13 => absurd c13 (by omega))
      refine r_aload0 dX3_doughByAmount_84 ?_
      refine r_iconst (v := nI 1) dX3_doughByAmount_85 (by decide) ?_
      refine r_callV (M' := mX3_fails) _ dX3_doughByAmount_86 q3489 q3491 qs57 rfl (lw_all_tbl q3492) q138 (by exact pl_X3_fails) gc_X3 (by first | exact m.1 | exact m0.1 | exact m1.1 | exact m2.1 | exact m3.1 | assumption | exact g_us | (rw [g_un (by omega)]; assumption) | (rw [g_un (by omega)]; exact g_us) | (rw [g_un (by omega), g_un (by omega)]; assumption) | (rw [g_un (by omega), g_un (by omega)]; exact g_us) | (rw [g_un (by omega), g_un (by omega), g_un (by omega)]; assumption) | ((repeat (rw [g_un (by omega)])); first | exact m.1 | exact m0.1 | exact m1.1 | exact m2.1 | exact m3.1 | exact g_us | assumption)) ((k_fails hb m1)) (by omega) (Nat.le_of_ble_eq_true rfl) (by omega) (by omega) rfl (Nat.le_of_ble_eq_true rfl) rfl (kI fun r86 h86 n86 e86 => ?_) kN
      obtain ⟨rfl, m2, t1, rfl⟩ := e86
      exact r_ireturn dX3_doughByAmount_89 rfl rfl (⟨by rw [hf]; exact mQ.no (show fE none ≠ 0 by decide) m2, t0.tr t1, rfl⟩)
    | succ j ih =>
      intro k o3 o4 h1 q3 q4 hk hf m1 t0
      have inner : ∀ (j2 i : Nat), i + j2 = R 1 0 → g_G K mX3_doughByAmount 4 0 0 (gI fun r h' n' => mQ a V R A (fE (dAt (R 1) p)) (fR (dAt (R 1) p)) r h' ∧ mT a h h' ∧ n' = n) gN 21 [some (.ref a), some (.int p), some (.int (nI k)), some (.int (nI (rkD (R 1) k i))), some (.int (nI i))] [] h1 n := by
        intro j2
        induction j2 with
        | zero =>
          intro i hi
          have hi : i = R 1 0 := by omega
          subst hi
          refine r_iload4 dX3_doughByAmount_21 ?_
          refine r_aload0 dX3_doughByAmount_23 ?_
          refine r_iconst (v := nI 0) dX3_doughByAmount_24 (by decide) ?_
          refine r_callV (M' := mX3_at) _ dX3_doughByAmount_25 q3485 q3487 qs56 rfl (lw_all_tbl q3488) q138 (by exact pl_X3_at) gc_X3 (by first | exact m.1 | exact m0.1 | exact m1.1 | exact m2.1 | exact m3.1 | assumption | exact g_us | (rw [g_un (by omega)]; assumption) | (rw [g_un (by omega)]; exact g_us) | (rw [g_un (by omega), g_un (by omega)]; assumption) | (rw [g_un (by omega), g_un (by omega)]; exact g_us) | (rw [g_un (by omega), g_un (by omega), g_un (by omega)]; assumption) | ((repeat (rw [g_un (by omega)])); first | exact m.1 | exact m0.1 | exact m1.1 | exact m2.1 | exact m3.1 | exact g_us | assumption)) ((k_at m1 (by decide) (by decide))) (by omega) (Nat.le_of_ble_eq_true rfl) (by omega) (by omega) rfl (Nat.le_of_ble_eq_true rfl) rfl (kI fun r25 h25 n25 e25 => ?_) kN
          obtain ⟨rfl, rfl, rfl⟩ := e25
          refine r_icmp_geN (tgt := 71) dX3_doughByAmount_28 (by decide) (by omega) (by omega) (fun c28 => ?_) (fun c28 => absurd c28 (by omega))
          refine r_iload3 dX3_doughByAmount_71 ?_
          refine r_iload1 dX3_doughByAmount_72 ?_
          refine r_icmp_ne (tgt := 78) dX3_doughByAmount_73 (by decide) (fun c73 => ?_) (fun c73 => ?_)
          · refine r_iinc2 dX3_doughByAmount_78 (ii1 _) ?_
            refine r_goto (tgt := 7) dX3_doughByAmount_81 (by decide) ?_
            exact ih (k + 1) _ _ _ g_c1i g_c1i (by omega) (hf.trans (fnd_n c73)) m1 t0
          · refine r_iload2 dX3_doughByAmount_76 ?_
            exact r_ireturn dX3_doughByAmount_77 rfl rfl (⟨by rw [hf, fnd_y c73]; exact mQ.z rfl rfl m1, t0, rfl⟩)
        | succ j2 ih2 =>
          intro i hi
          refine r_iload4 dX3_doughByAmount_21 ?_
          refine r_aload0 dX3_doughByAmount_23 ?_
          refine r_iconst (v := nI 0) dX3_doughByAmount_24 (by decide) ?_
          refine r_callV (M' := mX3_at) _ dX3_doughByAmount_25 q3485 q3487 qs56 rfl (lw_all_tbl q3488) q138 (by exact pl_X3_at) gc_X3 (by first | exact m.1 | exact m0.1 | exact m1.1 | exact m2.1 | exact m3.1 | assumption | exact g_us | (rw [g_un (by omega)]; assumption) | (rw [g_un (by omega)]; exact g_us) | (rw [g_un (by omega), g_un (by omega)]; assumption) | (rw [g_un (by omega), g_un (by omega)]; exact g_us) | (rw [g_un (by omega), g_un (by omega), g_un (by omega)]; assumption) | ((repeat (rw [g_un (by omega)])); first | exact m.1 | exact m0.1 | exact m1.1 | exact m2.1 | exact m3.1 | exact g_us | assumption)) ((k_at m1 (by decide) (by decide))) (by omega) (Nat.le_of_ble_eq_true rfl) (by omega) (by omega) rfl (Nat.le_of_ble_eq_true rfl) rfl (kI fun r25 h25 n25 e25 => ?_) kN
          obtain ⟨rfl, rfl, rfl⟩ := e25
          refine r_icmp_geN (tgt := 71) dX3_doughByAmount_28 (by decide) (by omega) (by omega) (fun c28 => absurd c28 (by omega)) (fun c28 => ?_)
          refine r_iload3 dX3_doughByAmount_31 ?_
          refine r_aload0 dX3_doughByAmount_32 ?_
          refine r_iload4 dX3_doughByAmount_33 ?_
          refine r_iload2 dX3_doughByAmount_35 ?_
          refine r_callV (M' := mX3_isMore) _ dX3_doughByAmount_36 q3720 q3722 qs96 rfl (lw_all_tbl q3723) q138 (by exact pl_X3_isMore) gc_X3 (by first | exact m.1 | exact m0.1 | exact m1.1 | exact m2.1 | exact m3.1 | assumption | exact g_us | (rw [g_un (by omega)]; assumption) | (rw [g_un (by omega)]; exact g_us) | (rw [g_un (by omega), g_un (by omega)]; assumption) | (rw [g_un (by omega), g_un (by omega)]; exact g_us) | (rw [g_un (by omega), g_un (by omega), g_un (by omega)]; assumption) | ((repeat (rw [g_un (by omega)])); first | exact m.1 | exact m0.1 | exact m1.1 | exact m2.1 | exact m3.1 | exact g_us | assumption)) ((k_isMore m1 w (by omega) (by omega))) (by omega) (Nat.le_of_ble_eq_true rfl) (by omega) (by omega) rfl (Nat.le_of_ble_eq_true rfl) rfl (kI fun r36 h36 n36 e36 => ?_) kN
          obtain ⟨rfl, rfl, rfl⟩ := e36
          refine r_if_neB (tgt := 58) dX3_doughByAmount_39 (by decide) (fun c39 => ?_) (fun c39 => ?_)
          · refine r_iconst (v := nI 1) dX3_doughByAmount_58 (by decide) ?_
            refine r_goto (tgt := 63) dX3_doughByAmount_59 (by decide) ?_
            refine r_iadd dX3_doughByAmount_63 (show _ = nI (rkD (R 1) k (i + 1)) by rw [rkD_y (Or.inl c39)]; exact nI_add _ _) ?_
            refine r_istore3 dX3_doughByAmount_64 ?_
            refine r_iinc4 dX3_doughByAmount_65 (ii1 _) ?_
            refine r_goto (tgt := 21) dX3_doughByAmount_68 (by decide) ?_
            exact ih2 (i + 1) (by omega)
          · refine r_aload0 dX3_doughByAmount_42 ?_
            refine r_iload2 dX3_doughByAmount_43 ?_
            refine r_iload4 dX3_doughByAmount_44 ?_
            refine r_callV (M' := mX3_isMore) _ dX3_doughByAmount_46 q3720 q3722 qs96 rfl (lw_all_tbl q3723) q138 (by exact pl_X3_isMore) gc_X3 (by first | exact m.1 | exact m0.1 | exact m1.1 | exact m2.1 | exact m3.1 | assumption | exact g_us | (rw [g_un (by omega)]; assumption) | (rw [g_un (by omega)]; exact g_us) | (rw [g_un (by omega), g_un (by omega)]; assumption) | (rw [g_un (by omega), g_un (by omega)]; exact g_us) | (rw [g_un (by omega), g_un (by omega), g_un (by omega)]; assumption) | ((repeat (rw [g_un (by omega)])); first | exact m.1 | exact m0.1 | exact m1.1 | exact m2.1 | exact m3.1 | exact g_us | assumption)) ((k_isMore m1 w (by omega) (by omega))) (by omega) (Nat.le_of_ble_eq_true rfl) (by omega) (by omega) rfl (Nat.le_of_ble_eq_true rfl) rfl (kI fun r46 h46 n46 e46 => ?_) kN
            obtain ⟨rfl, rfl, rfl⟩ := e46
            refine r_if_neB (tgt := 62) dX3_doughByAmount_49 (by decide) (fun c49 => ?_) (fun c49 => ?_)
            · refine r_iconst (v := nI 0) dX3_doughByAmount_62 (by decide) ?_
              refine r_iadd dX3_doughByAmount_63 (show _ = nI (rkD (R 1) k (i + 1)) by rw [rkD_n (fun z => z.elim c39 (fun y => y.1 c49))]; exact nI_add _ _) ?_
              refine r_istore3 dX3_doughByAmount_64 ?_
              refine r_iinc4 dX3_doughByAmount_65 (ii1 _) ?_
              refine r_goto (tgt := 21) dX3_doughByAmount_68 (by decide) ?_
              exact ih2 (i + 1) (by omega)
            · refine r_iload4 dX3_doughByAmount_52 ?_
              refine r_iload2 dX3_doughByAmount_54 ?_
              refine r_icmp_geN (tgt := 62) dX3_doughByAmount_55 (by decide) (by omega) (by omega) (fun c55 => ?_) (fun c55 => ?_)
              · refine r_iconst (v := nI 0) dX3_doughByAmount_62 (by decide) ?_
                refine r_iadd dX3_doughByAmount_63 (show _ = nI (rkD (R 1) k (i + 1)) by rw [rkD_n (fun z => z.elim c39 (fun y => absurd y.2 (by omega)))]; exact nI_add _ _) ?_
                refine r_istore3 dX3_doughByAmount_64 ?_
                refine r_iinc4 dX3_doughByAmount_65 (ii1 _) ?_
                refine r_goto (tgt := 21) dX3_doughByAmount_68 (by decide) ?_
                exact ih2 (i + 1) (by omega)
              · refine r_iconst (v := nI 1) dX3_doughByAmount_58 (by decide) ?_
                refine r_goto (tgt := 63) dX3_doughByAmount_59 (by decide) ?_
                refine r_iadd dX3_doughByAmount_63 (show _ = nI (rkD (R 1) k (i + 1)) by rw [rkD_y (Or.inr ⟨c49, by omega⟩)]; exact nI_add _ _) ?_
                refine r_istore3 dX3_doughByAmount_64 ?_
                refine r_iinc4 dX3_doughByAmount_65 (ii1 _) ?_
                refine r_goto (tgt := 21) dX3_doughByAmount_68 (by decide) ?_
                exact ih2 (i + 1) (by omega)
      refine r_iload2 dX3_doughByAmount_7 ?_
      refine r_aload0 dX3_doughByAmount_8 ?_
      refine r_iconst (v := nI 0) dX3_doughByAmount_9 (by decide) ?_
      refine r_callV (M' := mX3_at) _ dX3_doughByAmount_10 q3485 q3487 qs56 rfl (lw_all_tbl q3488) q138 (by exact pl_X3_at) gc_X3 (by first | exact m.1 | exact m0.1 | exact m1.1 | exact m2.1 | exact m3.1 | assumption | exact g_us | (rw [g_un (by omega)]; assumption) | (rw [g_un (by omega)]; exact g_us) | (rw [g_un (by omega), g_un (by omega)]; assumption) | (rw [g_un (by omega), g_un (by omega)]; exact g_us) | (rw [g_un (by omega), g_un (by omega), g_un (by omega)]; assumption) | ((repeat (rw [g_un (by omega)])); first | exact m.1 | exact m0.1 | exact m1.1 | exact m2.1 | exact m3.1 | exact g_us | assumption)) ((k_at m1 (by decide) (by decide))) (by omega) (Nat.le_of_ble_eq_true rfl) (by omega) (by omega) rfl (Nat.le_of_ble_eq_true rfl) rfl (kI fun r10 h10 n10 e10 => ?_) kN
      obtain ⟨rfl, rfl, rfl⟩ := e10
      refine r_icmp_geN (tgt := 84) dX3_doughByAmount_13 (by decide) (by omega) (by omega) (fun c13 => absurd c13 (by omega)) (fun c13 => ?_)
      refine r_iconst (v := nI 0) dX3_doughByAmount_16 (by decide) ?_
      refine r_istore3 dX3_doughByAmount_17 ?_
      refine r_iconst (v := nI 0) dX3_doughByAmount_18 (by decide) ?_
      refine r_istore4 dX3_doughByAmount_19 ?_
      exact inner (R 1 0) 0 (by omega)
  refine r_aload0 dX3_doughByAmount_0 ?_
  refine r_iconst (v := nI 0) dX3_doughByAmount_1 (by decide) ?_
  refine p_X3_1_X3 dX3_doughByAmount_2 (by omega) (by first | exact m.1 | exact m0.1 | exact m1.1 | exact m2.1 | exact m3.1 | assumption | exact g_us | (rw [g_un (by omega)]; assumption) | (rw [g_un (by omega)]; exact g_us) | (rw [g_un (by omega), g_un (by omega)]; assumption) | (rw [g_un (by omega), g_un (by omega)]; exact g_us) | (rw [g_un (by omega), g_un (by omega), g_un (by omega)]; assumption) | ((repeat (rw [g_un (by omega)])); first | exact m.1 | exact m0.1 | exact m1.1 | exact m2.1 | exact m3.1 | exact g_us | assumption)) ?_
  refine m.goZ (fun h0 m0 t0 => ?_)
  refine r_iconst (v := nI 0) dX3_doughByAmount_5 (by decide) ?_
  refine r_istore2 dX3_doughByAmount_6 ?_
  exact outer (R 1 0) 0 _ _ _ g_c1n g_c1n (by omega) rfl m0 t0
theorem k_ranked {p : Int32} {wh : Nat} (m : mS a V R A h) (w : wB u (R 1)) (hw : wh < 3) : g_Met K mX3_ranked 3 0 0 [.ref a, .int p, .int (nI wh)] h n (gI fun r h' n' => r = (match lAt (R 1) wh p with | some k => nI k | none => -1) ∧ h' = h ∧ n' = n) gN := by
  have b := w.b
  have bd : ∀ k, k < R 1 2 → R 1 (32 + 3 * k + wh) < 2147483648 := by
    intro k hk
    have := w.l hk
    match wh, hw with
    | 0, _ => show R 1 (32 + 3 * k) < _; omega
    | 1, _ => rw [show 32 + 3 * k + 1 = 33 + 3 * k by omega]; omega
    | 2, _ => rw [show 32 + 3 * k + 2 = 34 + 3 * k by omega]; omega
  refine g_Met.of (M := mX3_ranked) (L := [some (.ref a), some (.int p), some (.int (nI wh)), none, none, none]) (by decide +kernel) (Nat.le_of_ble_eq_true rfl) rfl ?_
  have outer : ∀ (j k : Nat) (o3 o4 : Option Value), g_c1 o3 → g_c1 o4 → k + j = R 1 2 → lAt (R 1) wh p = fnd (fun a => nI (rkL (R 1) wh a (R 1 2)) = p) k j → g_G K mX3_ranked 3 0 0 (gI fun r h' n' => r = (match lAt (R 1) wh p with | some k => nI k | none => -1) ∧ h' = h ∧ n' = n) gN 2 [some (.ref a), some (.int p), some (.int (nI wh)), some (.int (nI k)), o3, o4] [] h n := by
    intro j
    induction j with
    | zero =>
      intro k o3 o4 q3 q4 hk hf
      refine r_iload3 dX3_ranked_2 ?_
      refine r_aload0 dX3_ranked_3 ?_
      refine r_iconst (v := nI 2) dX3_ranked_4 (by decide) ?_
      refine r_callV (M' := mX3_at) _ dX3_ranked_5 q3485 q3487 qs56 rfl (lw_all_tbl q3488) q138 (by exact pl_X3_at) gc_X3 (by first | exact m.1 | exact m0.1 | exact m1.1 | exact m2.1 | exact m3.1 | assumption | exact g_us | (rw [g_un (by omega)]; assumption) | (rw [g_un (by omega)]; exact g_us) | (rw [g_un (by omega), g_un (by omega)]; assumption) | (rw [g_un (by omega), g_un (by omega)]; exact g_us) | (rw [g_un (by omega), g_un (by omega), g_un (by omega)]; assumption) | ((repeat (rw [g_un (by omega)])); first | exact m.1 | exact m0.1 | exact m1.1 | exact m2.1 | exact m3.1 | exact g_us | assumption)) ((k_at m (by decide) (by decide))) (by omega) (Nat.le_of_ble_eq_true rfl) (by omega) (by omega) rfl (Nat.le_of_ble_eq_true rfl) rfl (kI fun r5 h5 n5 e5 => ?_) kN
      obtain ⟨rfl, rfl, rfl⟩ := e5
      refine r_icmp_geN (tgt := 95) dX3_ranked_8 (by decide) (by omega) (by omega) (fun c8 => ?_) (fun c8 => absurd c8 (by omega))
      refine r_iconst (v := (-1)) dX3_ranked_95 (by decide) ?_
      exact r_ireturn dX3_ranked_96 rfl rfl (⟨by rw [hf]; rfl, rfl, rfl⟩)
    | succ j ih =>
      intro k o3 o4 q3 q4 hk hf
      have bk := bd k (by omega)
      have inner : ∀ (j2 i : Nat), i + j2 = R 1 2 → g_G K mX3_ranked 3 0 0 (gI fun r h' n' => r = (match lAt (R 1) wh p with | some k => nI k | none => -1) ∧ h' = h ∧ n' = n) gN 17 [some (.ref a), some (.int p), some (.int (nI wh)), some (.int (nI k)), some (.int (nI (rkL (R 1) wh k i))), some (.int (nI i))] [] h n := by
        intro j2
        induction j2 with
        | zero =>
          intro i hi
          have hi : i = R 1 2 := by omega
          subst hi
          refine r_iload5 dX3_ranked_17 ?_
          refine r_aload0 dX3_ranked_19 ?_
          refine r_iconst (v := nI 2) dX3_ranked_20 (by decide) ?_
          refine r_callV (M' := mX3_at) _ dX3_ranked_21 q3485 q3487 qs56 rfl (lw_all_tbl q3488) q138 (by exact pl_X3_at) gc_X3 (by first | exact m.1 | exact m0.1 | exact m1.1 | exact m2.1 | exact m3.1 | assumption | exact g_us | (rw [g_un (by omega)]; assumption) | (rw [g_un (by omega)]; exact g_us) | (rw [g_un (by omega), g_un (by omega)]; assumption) | (rw [g_un (by omega), g_un (by omega)]; exact g_us) | (rw [g_un (by omega), g_un (by omega), g_un (by omega)]; assumption) | ((repeat (rw [g_un (by omega)])); first | exact m.1 | exact m0.1 | exact m1.1 | exact m2.1 | exact m3.1 | exact g_us | assumption)) ((k_at m (by decide) (by decide))) (by omega) (Nat.le_of_ble_eq_true rfl) (by omega) (by omega) rfl (Nat.le_of_ble_eq_true rfl) rfl (kI fun r21 h21 n21 e21 => ?_) kN
          obtain ⟨rfl, rfl, rfl⟩ := e21
          refine r_icmp_geN (tgt := 81) dX3_ranked_24 (by decide) (by omega) (by omega) (fun c24 => ?_) (fun c24 => absurd c24 (by omega))
          refine r_iload4 dX3_ranked_81 ?_
          refine r_iload1 dX3_ranked_83 ?_
          refine r_icmp_ne (tgt := 89) dX3_ranked_84 (by decide) (fun c84 => ?_) (fun c84 => ?_)
          · refine r_iinc3 dX3_ranked_89 (ii1 _) ?_
            refine r_goto (tgt := 2) dX3_ranked_92 (by decide) ?_
            exact ih (k + 1) _ _ g_c1i g_c1i (by omega) (hf.trans (fnd_n c84))
          · refine r_iload3 dX3_ranked_87 ?_
            exact r_ireturn dX3_ranked_88 rfl rfl (⟨by rw [hf, fnd_y c84], rfl, rfl⟩)
        | succ j2 ih2 =>
          intro i hi
          have bi := bd i (by omega)
          refine r_iload5 dX3_ranked_17 ?_
          refine r_aload0 dX3_ranked_19 ?_
          refine r_iconst (v := nI 2) dX3_ranked_20 (by decide) ?_
          refine r_callV (M' := mX3_at) _ dX3_ranked_21 q3485 q3487 qs56 rfl (lw_all_tbl q3488) q138 (by exact pl_X3_at) gc_X3 (by first | exact m.1 | exact m0.1 | exact m1.1 | exact m2.1 | exact m3.1 | assumption | exact g_us | (rw [g_un (by omega)]; assumption) | (rw [g_un (by omega)]; exact g_us) | (rw [g_un (by omega), g_un (by omega)]; assumption) | (rw [g_un (by omega), g_un (by omega)]; exact g_us) | (rw [g_un (by omega), g_un (by omega), g_un (by omega)]; assumption) | ((repeat (rw [g_un (by omega)])); first | exact m.1 | exact m0.1 | exact m1.1 | exact m2.1 | exact m3.1 | exact g_us | assumption)) ((k_at m (by decide) (by decide))) (by omega) (Nat.le_of_ble_eq_true rfl) (by omega) (by omega) rfl (Nat.le_of_ble_eq_true rfl) rfl (kI fun r21 h21 n21 e21 => ?_) kN
          obtain ⟨rfl, rfl, rfl⟩ := e21
          refine r_icmp_geN (tgt := 81) dX3_ranked_24 (by decide) (by omega) (by omega) (fun c24 => absurd c24 (by omega)) (fun c24 => ?_)
          refine r_iload4 dX3_ranked_27 ?_
          refine r_aload0 dX3_ranked_29 ?_
          refine r_iload5 dX3_ranked_30 ?_
          refine r_iload2 dX3_ranked_32 ?_
          refine r_callV (M' := mX3_loaf) _ dX3_ranked_33 q3580 q3582 qs75 rfl (lw_all_tbl q3583) q138 (by exact pl_X3_loaf) gc_X3 (by first | exact m.1 | exact m0.1 | exact m1.1 | exact m2.1 | exact m3.1 | assumption | exact g_us | (rw [g_un (by omega)]; assumption) | (rw [g_un (by omega)]; exact g_us) | (rw [g_un (by omega), g_un (by omega)]; assumption) | (rw [g_un (by omega), g_un (by omega)]; exact g_us) | (rw [g_un (by omega), g_un (by omega), g_un (by omega)]; assumption) | ((repeat (rw [g_un (by omega)])); first | exact m.1 | exact m0.1 | exact m1.1 | exact m2.1 | exact m3.1 | exact g_us | assumption)) ((k_loaf m (by omega) hw)) (by omega) (Nat.le_of_ble_eq_true rfl) (by omega) (by omega) rfl (Nat.le_of_ble_eq_true rfl) rfl (kI fun r33 h33 n33 e33 => ?_) kN
          obtain ⟨rfl, rfl, rfl⟩ := e33
          refine r_aload0 dX3_ranked_36 ?_
          refine r_iload3 dX3_ranked_37 ?_
          refine r_iload2 dX3_ranked_38 ?_
          refine r_callV (M' := mX3_loaf) _ dX3_ranked_39 q3580 q3582 qs75 rfl (lw_all_tbl q3583) q138 (by exact pl_X3_loaf) gc_X3 (by first | exact m.1 | exact m0.1 | exact m1.1 | exact m2.1 | exact m3.1 | assumption | exact g_us | (rw [g_un (by omega)]; assumption) | (rw [g_un (by omega)]; exact g_us) | (rw [g_un (by omega), g_un (by omega)]; assumption) | (rw [g_un (by omega), g_un (by omega)]; exact g_us) | (rw [g_un (by omega), g_un (by omega), g_un (by omega)]; assumption) | ((repeat (rw [g_un (by omega)])); first | exact m.1 | exact m0.1 | exact m1.1 | exact m2.1 | exact m3.1 | exact g_us | assumption)) ((k_loaf m (by omega) hw)) (by omega) (Nat.le_of_ble_eq_true rfl) (by omega) (by omega) rfl (Nat.le_of_ble_eq_true rfl) rfl (kI fun r39 h39 n39 e39 => ?_) kN
          obtain ⟨rfl, rfl, rfl⟩ := e39
          refine r_icmp_gtN (tgt := 67) dX3_ranked_42 (by decide) (by omega) (by omega) (fun c42 => ?_) (fun c42 => ?_)
          · refine r_iconst (v := nI 1) dX3_ranked_67 (by decide) ?_
            refine r_goto (tgt := 72) dX3_ranked_68 (by decide) ?_
            refine r_iadd dX3_ranked_72 (show _ = nI (rkL (R 1) wh k (i + 1)) by rw [rkL_y (by omega)]; exact nI_add _ _) ?_
            refine r_istore4 dX3_ranked_73 ?_
            refine r_iinc5 dX3_ranked_75 (ii1 _) ?_
            refine r_goto (tgt := 17) dX3_ranked_78 (by decide) ?_
            exact ih2 (i + 1) (by omega)
          · refine r_aload0 dX3_ranked_45 ?_
            refine r_iload5 dX3_ranked_46 ?_
            refine r_iload2 dX3_ranked_48 ?_
            refine r_callV (M' := mX3_loaf) _ dX3_ranked_49 q3580 q3582 qs75 rfl (lw_all_tbl q3583) q138 (by exact pl_X3_loaf) gc_X3 (by first | exact m.1 | exact m0.1 | exact m1.1 | exact m2.1 | exact m3.1 | assumption | exact g_us | (rw [g_un (by omega)]; assumption) | (rw [g_un (by omega)]; exact g_us) | (rw [g_un (by omega), g_un (by omega)]; assumption) | (rw [g_un (by omega), g_un (by omega)]; exact g_us) | (rw [g_un (by omega), g_un (by omega), g_un (by omega)]; assumption) | ((repeat (rw [g_un (by omega)])); first | exact m.1 | exact m0.1 | exact m1.1 | exact m2.1 | exact m3.1 | exact g_us | assumption)) ((k_loaf m (by omega) hw)) (by omega) (Nat.le_of_ble_eq_true rfl) (by omega) (by omega) rfl (Nat.le_of_ble_eq_true rfl) rfl (kI fun r49 h49 n49 e49 => ?_) kN
            obtain ⟨rfl, rfl, rfl⟩ := e49
            refine r_aload0 dX3_ranked_52 ?_
            refine r_iload3 dX3_ranked_53 ?_
            refine r_iload2 dX3_ranked_54 ?_
            refine r_callV (M' := mX3_loaf) _ dX3_ranked_55 q3580 q3582 qs75 rfl (lw_all_tbl q3583) q138 (by exact pl_X3_loaf) gc_X3 (by first | exact m.1 | exact m0.1 | exact m1.1 | exact m2.1 | exact m3.1 | assumption | exact g_us | (rw [g_un (by omega)]; assumption) | (rw [g_un (by omega)]; exact g_us) | (rw [g_un (by omega), g_un (by omega)]; assumption) | (rw [g_un (by omega), g_un (by omega)]; exact g_us) | (rw [g_un (by omega), g_un (by omega), g_un (by omega)]; assumption) | ((repeat (rw [g_un (by omega)])); first | exact m.1 | exact m0.1 | exact m1.1 | exact m2.1 | exact m3.1 | exact g_us | assumption)) ((k_loaf m (by omega) hw)) (by omega) (Nat.le_of_ble_eq_true rfl) (by omega) (by omega) rfl (Nat.le_of_ble_eq_true rfl) rfl (kI fun r55 h55 n55 e55 => ?_) kN
            obtain ⟨rfl, rfl, rfl⟩ := e55
            refine r_icmp_neN (tgt := 71) dX3_ranked_58 (by decide) (by omega) (by omega) (fun c58 => ?_) (fun c58 => ?_)
            · refine r_iconst (v := nI 0) dX3_ranked_71 (by decide) ?_
              refine r_iadd dX3_ranked_72 (show _ = nI (rkL (R 1) wh k (i + 1)) by rw [rkL_n (by omega)]; exact nI_add _ _) ?_
              refine r_istore4 dX3_ranked_73 ?_
              refine r_iinc5 dX3_ranked_75 (ii1 _) ?_
              refine r_goto (tgt := 17) dX3_ranked_78 (by decide) ?_
              exact ih2 (i + 1) (by omega)
            · refine r_iload5 dX3_ranked_61 ?_
              refine r_iload3 dX3_ranked_63 ?_
              refine r_icmp_geN (tgt := 71) dX3_ranked_64 (by decide) (by omega) (by omega) (fun c64 => ?_) (fun c64 => ?_)
              · refine r_iconst (v := nI 0) dX3_ranked_71 (by decide) ?_
                refine r_iadd dX3_ranked_72 (show _ = nI (rkL (R 1) wh k (i + 1)) by rw [rkL_n (by omega)]; exact nI_add _ _) ?_
                refine r_istore4 dX3_ranked_73 ?_
                refine r_iinc5 dX3_ranked_75 (ii1 _) ?_
                refine r_goto (tgt := 17) dX3_ranked_78 (by decide) ?_
                exact ih2 (i + 1) (by omega)
              · refine r_iconst (v := nI 1) dX3_ranked_67 (by decide) ?_
                refine r_goto (tgt := 72) dX3_ranked_68 (by decide) ?_
                refine r_iadd dX3_ranked_72 (show _ = nI (rkL (R 1) wh k (i + 1)) by rw [rkL_y (by omega)]; exact nI_add _ _) ?_
                refine r_istore4 dX3_ranked_73 ?_
                refine r_iinc5 dX3_ranked_75 (ii1 _) ?_
                refine r_goto (tgt := 17) dX3_ranked_78 (by decide) ?_
                exact ih2 (i + 1) (by omega)
      refine r_iload3 dX3_ranked_2 ?_
      refine r_aload0 dX3_ranked_3 ?_
      refine r_iconst (v := nI 2) dX3_ranked_4 (by decide) ?_
      refine r_callV (M' := mX3_at) _ dX3_ranked_5 q3485 q3487 qs56 rfl (lw_all_tbl q3488) q138 (by exact pl_X3_at) gc_X3 (by first | exact m.1 | exact m0.1 | exact m1.1 | exact m2.1 | exact m3.1 | assumption | exact g_us | (rw [g_un (by omega)]; assumption) | (rw [g_un (by omega)]; exact g_us) | (rw [g_un (by omega), g_un (by omega)]; assumption) | (rw [g_un (by omega), g_un (by omega)]; exact g_us) | (rw [g_un (by omega), g_un (by omega), g_un (by omega)]; assumption) | ((repeat (rw [g_un (by omega)])); first | exact m.1 | exact m0.1 | exact m1.1 | exact m2.1 | exact m3.1 | exact g_us | assumption)) ((k_at m (by decide) (by decide))) (by omega) (Nat.le_of_ble_eq_true rfl) (by omega) (by omega) rfl (Nat.le_of_ble_eq_true rfl) rfl (kI fun r5 h5 n5 e5 => ?_) kN
      obtain ⟨rfl, rfl, rfl⟩ := e5
      refine r_icmp_geN (tgt := 95) dX3_ranked_8 (by decide) (by omega) (by omega) (fun c8 => absurd c8 (by omega)) (fun c8 => ?_)
      refine r_iconst (v := nI 0) dX3_ranked_11 (by decide) ?_
      refine r_istore4 dX3_ranked_12 ?_
      refine r_iconst (v := nI 0) dX3_ranked_14 (by decide) ?_
      refine r_istore5 dX3_ranked_15 ?_
      exact inner (R 1 2) 0 (by omega)
  refine r_iconst (v := nI 0) dX3_ranked_0 (by decide) ?_
  refine r_istore3 dX3_ranked_1 ?_
  exact outer (R 1 2) 0 _ _ g_c1n g_c1n (by omega) rfl
theorem lAt_lt {wh k : Nat} {p : Int32} {ρ : Nat → Nat} (h : lAt ρ wh p = some k) : k < ρ 2 := by
  have := fnd_lt h
  omega
theorem k_loafByCrumbs {p : Int32} (hb : k_b K ≤ a) (m : mS a V R A h) (w : wB u (R 1)) : g_Met K mX3_loafByCrumbs 4 0 0 [.ref a, .int p] h n (gI fun r h' n' => mQ a V R A (fE (lAt (R 1) 2 p)) (fR (lAt (R 1) 2 p)) r h' ∧ mT a h h' ∧ n' = n) gN := by
  have b := w.b
  cases hl : lAt (R 1) 2 p with
  | none =>
    refine g_Met.of (M := mX3_loafByCrumbs) (L := [some (.ref a), some (.int p)]) (by decide +kernel) (Nat.le_of_ble_eq_true rfl) rfl ?_
    refine r_aload0 dX3_loafByCrumbs_0 ?_
    refine r_iconst (v := nI 0) dX3_loafByCrumbs_1 (by decide) ?_
    refine p_X3_1_X3 dX3_loafByCrumbs_2 (by omega) (by first | exact m.1 | exact m0.1 | exact m1.1 | exact m2.1 | exact m3.1 | assumption | exact g_us | (rw [g_un (by omega)]; assumption) | (rw [g_un (by omega)]; exact g_us) | (rw [g_un (by omega), g_un (by omega)]; assumption) | (rw [g_un (by omega), g_un (by omega)]; exact g_us) | (rw [g_un (by omega), g_un (by omega), g_un (by omega)]; assumption) | ((repeat (rw [g_un (by omega)])); first | exact m.1 | exact m0.1 | exact m1.1 | exact m2.1 | exact m3.1 | exact g_us | assumption)) ?_
    refine m.goZ (fun h0 m0 t0 => ?_)
    refine r_aload0 dX3_loafByCrumbs_5 ?_
    refine r_iload1 dX3_loafByCrumbs_6 ?_
    refine r_iconst (v := nI 2) dX3_loafByCrumbs_7 (by decide) ?_
    refine r_callV (M' := mX3_ranked) _ dX3_loafByCrumbs_8 q3806 q3808 qs102 rfl (lw_all_tbl q3809) q138 (by exact pl_X3_ranked) gc_X3 (by first | exact m.1 | exact m0.1 | exact m1.1 | exact m2.1 | exact m3.1 | assumption | exact g_us | (rw [g_un (by omega)]; assumption) | (rw [g_un (by omega)]; exact g_us) | (rw [g_un (by omega), g_un (by omega)]; assumption) | (rw [g_un (by omega), g_un (by omega)]; exact g_us) | (rw [g_un (by omega), g_un (by omega), g_un (by omega)]; assumption) | ((repeat (rw [g_un (by omega)])); first | exact m.1 | exact m0.1 | exact m1.1 | exact m2.1 | exact m3.1 | exact g_us | assumption)) ((k_ranked m0 w (by decide))) (by omega) (Nat.le_of_ble_eq_true rfl) (by omega) (by omega) rfl (Nat.le_of_ble_eq_true rfl) rfl (kI fun r8 h8 n8 e8 => ?_) kN
    obtain ⟨rfl, rfl, rfl⟩ := e8
    rw [hl]
    refine r_if_ge (tgt := 22) dX3_loafByCrumbs_11 (by decide) (fun c11 => absurd c11 ((by decide))) (fun c11 => ?_)
    refine r_aload0 dX3_loafByCrumbs_14 ?_
    refine r_iconst (v := nI 1) dX3_loafByCrumbs_15 (by decide) ?_
    refine r_callV (M' := mX3_fails) _ dX3_loafByCrumbs_16 q3489 q3491 qs57 rfl (lw_all_tbl q3492) q138 (by exact pl_X3_fails) gc_X3 (by first | exact m.1 | exact m0.1 | exact m1.1 | exact m2.1 | exact m3.1 | assumption | exact g_us | (rw [g_un (by omega)]; assumption) | (rw [g_un (by omega)]; exact g_us) | (rw [g_un (by omega), g_un (by omega)]; assumption) | (rw [g_un (by omega), g_un (by omega)]; exact g_us) | (rw [g_un (by omega), g_un (by omega), g_un (by omega)]; assumption) | ((repeat (rw [g_un (by omega)])); first | exact m.1 | exact m0.1 | exact m1.1 | exact m2.1 | exact m3.1 | exact g_us | assumption)) ((k_fails hb m0)) (by omega) (Nat.le_of_ble_eq_true rfl) (by omega) (by omega) rfl (Nat.le_of_ble_eq_true rfl) rfl (kI fun r16 h16 n16 e16 => ?_) kN
    obtain ⟨rfl, m1, t1, rfl⟩ := e16
    refine r_goto (tgt := 28) dX3_loafByCrumbs_19 (by decide) ?_
    exact r_ireturn dX3_loafByCrumbs_28 rfl rfl (⟨mQ.no (by decide) m1, t0.tr t1, rfl⟩)
  | some k =>
    have := lAt_lt hl
    refine g_Met.of (M := mX3_loafByCrumbs) (L := [some (.ref a), some (.int p)]) (by decide +kernel) (Nat.le_of_ble_eq_true rfl) rfl ?_
    refine r_aload0 dX3_loafByCrumbs_0 ?_
    refine r_iconst (v := nI 0) dX3_loafByCrumbs_1 (by decide) ?_
    refine p_X3_1_X3 dX3_loafByCrumbs_2 (by omega) (by first | exact m.1 | exact m0.1 | exact m1.1 | exact m2.1 | exact m3.1 | assumption | exact g_us | (rw [g_un (by omega)]; assumption) | (rw [g_un (by omega)]; exact g_us) | (rw [g_un (by omega), g_un (by omega)]; assumption) | (rw [g_un (by omega), g_un (by omega)]; exact g_us) | (rw [g_un (by omega), g_un (by omega), g_un (by omega)]; assumption) | ((repeat (rw [g_un (by omega)])); first | exact m.1 | exact m0.1 | exact m1.1 | exact m2.1 | exact m3.1 | exact g_us | assumption)) ?_
    refine m.goZ (fun h0 m0 t0 => ?_)
    refine r_aload0 dX3_loafByCrumbs_5 ?_
    refine r_iload1 dX3_loafByCrumbs_6 ?_
    refine r_iconst (v := nI 2) dX3_loafByCrumbs_7 (by decide) ?_
    refine r_callV (M' := mX3_ranked) _ dX3_loafByCrumbs_8 q3806 q3808 qs102 rfl (lw_all_tbl q3809) q138 (by exact pl_X3_ranked) gc_X3 (by first | exact m.1 | exact m0.1 | exact m1.1 | exact m2.1 | exact m3.1 | assumption | exact g_us | (rw [g_un (by omega)]; assumption) | (rw [g_un (by omega)]; exact g_us) | (rw [g_un (by omega), g_un (by omega)]; assumption) | (rw [g_un (by omega), g_un (by omega)]; exact g_us) | (rw [g_un (by omega), g_un (by omega), g_un (by omega)]; assumption) | ((repeat (rw [g_un (by omega)])); first | exact m.1 | exact m0.1 | exact m1.1 | exact m2.1 | exact m3.1 | exact g_us | assumption)) ((k_ranked m0 w (by decide))) (by omega) (Nat.le_of_ble_eq_true rfl) (by omega) (by omega) rfl (Nat.le_of_ble_eq_true rfl) rfl (kI fun r8 h8 n8 e8 => ?_) kN
    obtain ⟨rfl, rfl, rfl⟩ := e8
    rw [hl]
    dsimp only
    refine r_if_geN (tgt := 22) dX3_loafByCrumbs_11 (by decide) (by omega) (fun c11 => ?_) (fun c11 => absurd c11 (by omega))
    refine r_aload0 dX3_loafByCrumbs_22 ?_
    refine r_iload1 dX3_loafByCrumbs_23 ?_
    refine r_iconst (v := nI 2) dX3_loafByCrumbs_24 (by decide) ?_
    refine r_callV (M' := mX3_ranked) _ dX3_loafByCrumbs_25 q3806 q3808 qs102 rfl (lw_all_tbl q3809) q138 (by exact pl_X3_ranked) gc_X3 (by first | exact m.1 | exact m0.1 | exact m1.1 | exact m2.1 | exact m3.1 | assumption | exact g_us | (rw [g_un (by omega)]; assumption) | (rw [g_un (by omega)]; exact g_us) | (rw [g_un (by omega), g_un (by omega)]; assumption) | (rw [g_un (by omega), g_un (by omega)]; exact g_us) | (rw [g_un (by omega), g_un (by omega), g_un (by omega)]; assumption) | ((repeat (rw [g_un (by omega)])); first | exact m.1 | exact m0.1 | exact m1.1 | exact m2.1 | exact m3.1 | exact g_us | assumption)) ((k_ranked m0 w (by decide))) (by omega) (Nat.le_of_ble_eq_true rfl) (by omega) (by omega) rfl (Nat.le_of_ble_eq_true rfl) rfl (kI fun r25 h25 n25 e25 => ?_) kN
    obtain ⟨rfl, rfl, rfl⟩ := e25
    rw [hl]
    exact r_ireturn dX3_loafByCrumbs_28 rfl rfl (⟨mQ.z rfl rfl m0, t0, rfl⟩)
end
