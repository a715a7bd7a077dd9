/-! the reference: room, the fullest bowl, greedy baking -/
set_option maxRecDepth 100000
section
variable {K : g_K} {a n u : Nat} {V : Nat → Nat → Int32} {R : Nat → Nat → Nat} {A : Nat → Nat → Int64} {h : g_P}
theorem k_roomFrom {p : Int32} (hb : k_b K ≤ a) (m : mS a V R A h) (w : wB u (R 1)) : g_Met K mX3_roomFrom 3 0 0 [.ref a, .int p] h n (gI fun r h' n' => mQ a V R A (if ix p (R 1 1) then 0 else 1) (rmF (R 1) (tN p) (R 1 1 - tN p)) r h' ∧ mT a h h' ∧ n' = n) gN := by
  have b := w.b
  by_cases hp : ix p (R 1 1)
  · rw [if_pos hp]
    obtain ⟨i, hi, rfl, ti⟩ := ix_ex hp
    rw [ti]
    refine g_Met.of (M := mX3_roomFrom) (L := [some (.ref a), some (.int (nI i)), none, none]) (by decide +kernel) (Nat.le_of_ble_eq_true rfl) rfl ?_
    have loop : ∀ (g j : Nat) (h1 : g_P), i + j + g = R 1 1 → mS a (vZ V) R A h1 → mT a h h1 → g_G K mX3_roomFrom 3 0 0 (gI fun r h' n' => mQ a V R A 0 (rmF (R 1) i (R 1 1 - i)) r h' ∧ mT a h h' ∧ n' = n) gN 23 [some (.ref a), some (.int (nI i)), some (.int (nI (rmF (R 1) i j))), some (.int (nI (i + j)))] [] h1 n := by
      intro g
      induction g with
      | zero =>
        intro j h1 hj m1 t1
        have hj : j = R 1 1 - i := by omega
        subst hj
        refine r_iload3 dX3_roomFrom_23 ?_
        refine r_aload0 dX3_roomFrom_24 ?_
        refine r_iconst (v := nI 1) dX3_roomFrom_25 (by decide) ?_
        refine r_callV (M' := mX3_at) _ dX3_roomFrom_26 q3485 q3487 qs56 rfl (lw_all_tbl q3488) q138 (by exact pl_X3_at) gc_X3 (by first | exact m.1 | exact m0.1 | exact m1.1 | exact m2.1 | exact m3.1 | assumption | exact g_us | (rw [g_un (by omega)]; assumption) | (rw [g_un (by omega)]; exact g_us) | (rw [g_un (by omega), g_un (by omega)]; assumption) | (rw [g_un (by omega), g_un (by omega)]; exact g_us) | (rw [g_un (by omega), g_un (by omega), g_un (by omega)]; assumption) | ((repeat (rw [g_un (by omega)])); first | exact m.1 | exact m0.1 | exact m1.1 | exact m2.1 | exact m3.1 | exact g_us | assumption)) ((k_at m1 (by decide) (by decide))) (by omega) (Nat.le_of_ble_eq_true rfl) (by omega) (by omega) rfl (Nat.le_of_ble_eq_true rfl) rfl (kI fun r26 h26 n26 e26 => ?_) kN
        obtain ⟨rfl, rfl, rfl⟩ := e26
        refine r_icmp_geN (tgt := 54) dX3_roomFrom_29 (by decide) (by omega) (by omega) (fun c29 => ?_) (fun c29 => absurd c29 (by omega))
        refine r_iload2 dX3_roomFrom_54 ?_
        exact r_ireturn dX3_roomFrom_55 rfl rfl (⟨mQ.z rfl rfl m1, t1, rfl⟩)
      | succ g ih =>
        intro j h1 hj m1 t1
        have o := w.o (k := i + j) (by omega)
        refine r_iload3 dX3_roomFrom_23 ?_
        refine r_aload0 dX3_roomFrom_24 ?_
        refine r_iconst (v := nI 1) dX3_roomFrom_25 (by decide) ?_
        refine r_callV (M' := mX3_at) _ dX3_roomFrom_26 q3485 q3487 qs56 rfl (lw_all_tbl q3488) q138 (by exact pl_X3_at) gc_X3 (by first | exact m.1 | exact m0.1 | exact m1.1 | exact m2.1 | exact m3.1 | assumption | exact g_us | (rw [g_un (by omega)]; assumption) | (rw [g_un (by omega)]; exact g_us) | (rw [g_un (by omega), g_un (by omega)]; assumption) | (rw [g_un (by omega), g_un (by omega)]; exact g_us) | (rw [g_un (by omega), g_un (by omega), g_un (by omega)]; assumption) | ((repeat (rw [g_un (by omega)])); first | exact m.1 | exact m0.1 | exact m1.1 | exact m2.1 | exact m3.1 | exact g_us | assumption)) ((k_at m1 (by decide) (by decide))) (by omega) (Nat.le_of_ble_eq_true rfl) (by omega) (by omega) rfl (Nat.le_of_ble_eq_true rfl) rfl (kI fun r26 h26 n26 e26 => ?_) kN
        obtain ⟨rfl, rfl, rfl⟩ := e26
        refine r_icmp_geN (tgt := 54) dX3_roomFrom_29 (by decide) (by omega) (by omega) (fun c29 => absurd c29 (by omega)) (fun c29 => ?_)
        refine r_iload2 dX3_roomFrom_32 ?_
        refine r_aload0 dX3_roomFrom_33 ?_
        refine r_iload3 dX3_roomFrom_34 ?_
        refine r_iconst (v := nI 0) dX3_roomFrom_35 (by decide) ?_
        refine r_callV (M' := mX3_bowl) _ dX3_roomFrom_36 q3596 q3598 qs78 rfl (lw_all_tbl q3599) q138 (by exact pl_X3_bowl) gc_X3 (by first | exact m.1 | exact m0.1 | exact m1.1 | exact m2.1 | exact m3.1 | assumption | exact g_us | (rw [g_un (by omega)]; assumption) | (rw [g_un (by omega)]; exact g_us) | (rw [g_un (by omega), g_un (by omega)]; assumption) | (rw [g_un (by omega), g_un (by omega)]; exact g_us) | (rw [g_un (by omega), g_un (by omega), g_un (by omega)]; assumption) | ((repeat (rw [g_un (by omega)])); first | exact m.1 | exact m0.1 | exact m1.1 | exact m2.1 | exact m3.1 | exact g_us | assumption)) ((k_bowl m1 (by omega) (by decide))) (by omega) (Nat.le_of_ble_eq_true rfl) (by omega) (by omega) rfl (Nat.le_of_ble_eq_true rfl) rfl (kI fun r36 h36 n36 e36 => ?_) kN
        obtain ⟨rfl, rfl, rfl⟩ := e36
        rw [show 22 + 2 * (i + j) + 0 = 22 + 2 * (i + j) from rfl]
        refine r_aload0 dX3_roomFrom_39 ?_
        refine r_iload3 dX3_roomFrom_40 ?_
        refine r_iconst (v := nI 1) dX3_roomFrom_41 (by decide) ?_
        refine r_callV (M' := mX3_bowl) _ dX3_roomFrom_42 q3596 q3598 qs78 rfl (lw_all_tbl q3599) q138 (by exact pl_X3_bowl) gc_X3 (by first | exact m.1 | exact m0.1 | exact m1.1 | exact m2.1 | exact m3.1 | assumption | exact g_us | (rw [g_un (by omega)]; assumption) | (rw [g_un (by omega)]; exact g_us) | (rw [g_un (by omega), g_un (by omega)]; assumption) | (rw [g_un (by omega), g_un (by omega)]; exact g_us) | (rw [g_un (by omega), g_un (by omega), g_un (by omega)]; assumption) | ((repeat (rw [g_un (by omega)])); first | exact m.1 | exact m0.1 | exact m1.1 | exact m2.1 | exact m3.1 | exact g_us | assumption)) ((k_bowl m1 (by omega) (by decide))) (by omega) (Nat.le_of_ble_eq_true rfl) (by omega) (by omega) rfl (Nat.le_of_ble_eq_true rfl) rfl (kI fun r42 h42 n42 e42 => ?_) kN
        obtain ⟨rfl, rfl, rfl⟩ := e42
        rw [show 22 + 2 * (i + j) + 1 = 23 + 2 * (i + j) by omega]
        refine r_isub dX3_roomFrom_45 (by first | exact pk_sub (by omega) | rfl) ?_
        refine r_iadd dX3_roomFrom_46 (show _ = nI (rmF (R 1) i (j + 1)) from nI_add _ _) ?_
        refine r_istore2 dX3_roomFrom_47 ?_
        refine r_iinc3 dX3_roomFrom_48 (ii1 _) ?_
        refine r_goto (tgt := 23) dX3_roomFrom_51 (by decide) ?_
        exact ih (j + 1) _ (by omega) m1 t1
    refine r_aload0 dX3_roomFrom_0 ?_
    refine r_iconst (v := nI 0) dX3_roomFrom_1 (by decide) ?_
    refine p_X3_1_X3 dX3_roomFrom_2 (by omega) (by first | exact m.1 | exact m0.1 | exact m1.1 | exact m2.1 | exact m3.1 | assumption | exact g_us | (rw [g_un (by omega)]; assumption) | (rw [g_un (by omega)]; exact g_us) | (rw [g_un (by omega), g_un (by omega)]; assumption) | (rw [g_un (by omega), g_un (by omega)]; exact g_us) | (rw [g_un (by omega), g_un (by omega), g_un (by omega)]; assumption) | ((repeat (rw [g_un (by omega)])); first | exact m.1 | exact m0.1 | exact m1.1 | exact m2.1 | exact m3.1 | exact g_us | assumption)) ?_
    refine m.goZ (fun h0 m0 t0 => ?_)
    refine r_aload0 dX3_roomFrom_5 ?_
    refine r_iload1 dX3_roomFrom_6 ?_
    refine r_callV (M' := mX3_isBowl) _ dX3_roomFrom_7 q3623 q3625 qs82 rfl (lw_all_tbl q3626) q138 (by exact pl_X3_isBowl) gc_X3 (by first | exact m.1 | exact m0.1 | exact m1.1 | exact m2.1 | exact m3.1 | assumption | exact g_us | (rw [g_un (by omega)]; assumption) | (rw [g_un (by omega)]; exact g_us) | (rw [g_un (by omega), g_un (by omega)]; assumption) | (rw [g_un (by omega), g_un (by omega)]; exact g_us) | (rw [g_un (by omega), g_un (by omega), g_un (by omega)]; assumption) | ((repeat (rw [g_un (by omega)])); first | exact m.1 | exact m0.1 | exact m1.1 | exact m2.1 | exact m3.1 | exact g_us | assumption)) ((k_isBowl m0 w)) (by omega) (Nat.le_of_ble_eq_true rfl) (by omega) (by omega) rfl (Nat.le_of_ble_eq_true rfl) rfl (kI fun r7 h7 n7 e7 => ?_) kN
    obtain ⟨rfl, rfl, rfl⟩ := e7
    refine r_if_neB (tgt := 19) dX3_roomFrom_10 (by decide) (fun c10 => ?_) (fun c10 => absurd c10 (fun z => z hp))
    refine r_iconst (v := nI 0) dX3_roomFrom_19 (by decide) ?_
    refine r_istore2 dX3_roomFrom_20 ?_
    refine r_iload1 dX3_roomFrom_21 ?_
    refine r_istore3 dX3_roomFrom_22 ?_
    exact loop (R 1 1 - i) 0 _ (by omega) m0 t0
  · rw [if_neg hp]
    refine g_Met.of (M := mX3_roomFrom) (L := [some (.ref a), some (.int p), none, none]) (by decide +kernel) (Nat.le_of_ble_eq_true rfl) rfl ?_
    refine r_aload0 dX3_roomFrom_0 ?_
    refine r_iconst (v := nI 0) dX3_roomFrom_1 (by decide) ?_
    refine p_X3_1_X3 dX3_roomFrom_2 (by omega) (by first | exact m.1 | exact m0.1 | exact m1.1 | exact m2.1 | exact m3.1 | assumption | exact g_us | (rw [g_un (by omega)]; assumption) | (rw [g_un (by omega)]; exact g_us) | (rw [g_un (by omega), g_un (by omega)]; assumption) | (rw [g_un (by omega), g_un (by omega)]; exact g_us) | (rw [g_un (by omega), g_un (by omega), g_un (by omega)]; assumption) | ((repeat (rw [g_un (by omega)])); first | exact m.1 | exact m0.1 | exact m1.1 | exact m2.1 | exact m3.1 | exact g_us | assumption)) ?_
    refine m.goZ (fun h0 m0 t0 => ?_)
    refine r_aload0 dX3_roomFrom_5 ?_
    refine r_iload1 dX3_roomFrom_6 ?_
    refine r_callV (M' := mX3_isBowl) _ dX3_roomFrom_7 q3623 q3625 qs82 rfl (lw_all_tbl q3626) q138 (by exact pl_X3_isBowl) gc_X3 (by first | exact m.1 | exact m0.1 | exact m1.1 | exact m2.1 | exact m3.1 | assumption | exact g_us | (rw [g_un (by omega)]; assumption) | (rw [g_un (by omega)]; exact g_us) | (rw [g_un (by omega), g_un (by omega)]; assumption) | (rw [g_un (by omega), g_un (by omega)]; exact g_us) | (rw [g_un (by omega), g_un (by omega), g_un (by omega)]; assumption) | ((repeat (rw [g_un (by omega)])); first | exact m.1 | exact m0.1 | exact m1.1 | exact m2.1 | exact m3.1 | exact g_us | assumption)) ((k_isBowl m0 w)) (by omega) (Nat.le_of_ble_eq_true rfl) (by omega) (by omega) rfl (Nat.le_of_ble_eq_true rfl) rfl (kI fun r7 h7 n7 e7 => ?_) kN
    obtain ⟨rfl, rfl, rfl⟩ := e7
    refine r_if_neB (tgt := 19) dX3_roomFrom_10 (by decide) (fun c10 => absurd c10 hp) (fun c10 => ?_)
    refine r_aload0 dX3_roomFrom_13 ?_
    refine r_iconst (v := nI 1) dX3_roomFrom_14 (by decide) ?_
    refine r_callV (M' := mX3_fails) _ dX3_roomFrom_15 q3489 q3491 qs57 rfl (lw_all_tbl q3492) q138 (by exact pl_X3_fails) gc_X3 (by first | exact m.1 | exact m0.1 | exact m1.1 | exact m2.1 | exact m3.1 | assumption | exact g_us | (rw [g_un (by omega)]; assumption) | (rw [g_un (by omega)]; exact g_us) | (rw [g_un (by omega), g_un (by omega)]; assumption) | (rw [g_un (by omega), g_un (by omega)]; exact g_us) | (rw [g_un (by omega), g_un (by omega), g_un (by omega)]; assumption) | ((repeat (rw [g_un (by omega)])); first | exact m.1 | exact m0.1 | exact m1.1 | exact m2.1 | exact m3.1 | exact g_us | assumption)) ((k_fails hb m0)) (by omega) (Nat.le_of_ble_eq_true rfl) (by omega) (by omega) rfl (Nat.le_of_ble_eq_true rfl) rfl (kI fun r15 h15 n15 e15 => ?_) kN
    obtain ⟨rfl, m1, t1, rfl⟩ := e15
    exact r_ireturn dX3_roomFrom_18 rfl rfl (⟨mQ.no (by decide) m1, t0.tr t1, rfl⟩)
theorem k_fullestBowl (hb : k_b K ≤ a) (m : mS a V R A h) (w : wB u (R 1)) : g_Met K mX3_fullestBowl 3 0 0 [.ref a] h n (gI fun r h' n' => mQ a V R A (if R 1 1 = 0 then 1 else 0) (ful (fun k => R 1 (23 + 2 * k)) (R 1 1)) r h' ∧ mT a h h' ∧ n' = n) gN := by
  have b := w.b
  refine g_Met.of (M := mX3_fullestBowl) (L := [some (.ref a), none, none]) (by decide +kernel) (Nat.le_of_ble_eq_true rfl) rfl ?_
  have loop : ∀ (g k : Nat) (h1 : g_P), R 1 1 ≠ 0 → 1 ≤ k → k + g = R 1 1 → mS a (vZ V) R A h1 → mT a h h1 → g_G K mX3_fullestBowl 3 0 0 (gI fun r h' n' => mQ a V R A (if R 1 1 = 0 then 1 else 0) (ful (fun k => R 1 (23 + 2 * k)) (R 1 1)) r h' ∧ mT a h h' ∧ n' = n) gN 23 [some (.ref a), some (.int (nI (ful (fun k => R 1 (23 + 2 * k)) k))), some (.int (nI k))] [] h1 n := by
    intro g
    induction g with
    | zero =>
      intro k h1 h0 hk1 hk m1 t1
      have hk : k = R 1 1 := by omega
      subst hk
      refine r_iload2 dX3_fullestBowl_23 ?_
      refine r_aload0 dX3_fullestBowl_24 ?_
      refine r_iconst (v := nI 1) dX3_fullestBowl_25 (by decide) ?_
      refine r_callV (M' := mX3_at) _ dX3_fullestBowl_26 q3485 q3487 qs56 rfl (lw_all_tbl q3488) q138 (by exact pl_X3_at) gc_X3 (by first | exact m.1 | exact m0.1 | exact m1.1 | exact m2.1 | exact m3.1 | assumption | exact g_us | (rw [g_un (by omega)]; assumption) | (rw [g_un (by omega)]; exact g_us) | (rw [g_un (by omega), g_un (by omega)]; assumption) | (rw [g_un (by omega), g_un (by omega)]; exact g_us) | (rw [g_un (by omega), g_un (by omega), g_un (by omega)]; assumption) | ((repeat (rw [g_un (by omega)])); first | exact m.1 | exact m0.1 | exact m1.1 | exact m2.1 | exact m3.1 | exact g_us | assumption)) ((k_at m1 (by decide) (by decide))) (by omega) (Nat.le_of_ble_eq_true rfl) (by omega) (by omega) rfl (Nat.le_of_ble_eq_true rfl) rfl (kI fun r26 h26 n26 e26 => ?_) kN
      obtain ⟨rfl, rfl, rfl⟩ := e26
      refine r_icmp_geN (tgt := 59) dX3_fullestBowl_29 (by decide) (by omega) (by omega) (fun c29 => ?_) (fun c29 => absurd c29 (by omega))
      refine r_iload1 dX3_fullestBowl_59 ?_
      exact r_ireturn dX3_fullestBowl_60 rfl rfl (⟨by rw [if_neg h0]; exact mQ.z rfl rfl m1, t1, rfl⟩)
    | succ g ih =>
      intro k h1 h0 hk1 hk m1 t1
      have o := w.o (k := k) (by omega)
      have fl := ful_lt (f := fun k => R 1 (23 + 2 * k)) (n := k) (by omega)
      have o2 := w.o (k := ful (fun k => R 1 (23 + 2 * k)) k) (by omega)
      refine r_iload2 dX3_fullestBowl_23 ?_
      refine r_aload0 dX3_fullestBowl_24 ?_
      refine r_iconst (v := nI 1) dX3_fullestBowl_25 (by decide) ?_
      refine r_callV (M' := mX3_at) _ dX3_fullestBowl_26 q3485 q3487 qs56 rfl (lw_all_tbl q3488) q138 (by exact pl_X3_at) gc_X3 (by first | exact m.1 | exact m0.1 | exact m1.1 | exact m2.1 | exact m3.1 | assumption | exact g_us | (rw [g_un (by omega)]; assumption) | (rw [g_un (by omega)]; exact g_us) | (rw [g_un (by omega), g_un (by omega)]; assumption) | (rw [g_un (by omega), g_un (by omega)]; exact g_us) | (rw [g_un (by omega), g_un (by omega), g_un (by omega)]; assumption) | ((repeat (rw [g_un (by omega)])); first | exact m.1 | exact m0.1 | exact m1.1 | exact m2.1 | exact m3.1 | exact g_us | assumption)) ((k_at m1 (by decide) (by decide))) (by omega) (Nat.le_of_ble_eq_true rfl) (by omega) (by omega) rfl (Nat.le_of_ble_eq_true rfl) rfl (kI fun r26 h26 n26 e26 => ?_) kN
      obtain ⟨rfl, rfl, rfl⟩ := e26
      refine r_icmp_geN (tgt := 59) dX3_fullestBowl_29 (by decide) (by omega) (by omega) (fun c29 => absurd c29 (by omega)) (fun c29 => ?_)
      refine r_aload0 dX3_fullestBowl_32 ?_
      refine r_iload2 dX3_fullestBowl_33 ?_
      refine r_iconst (v := nI 1) dX3_fullestBowl_34 (by decide) ?_
      refine r_callV (M' := mX3_bowl) _ dX3_fullestBowl_35 q3596 q3598 qs78 rfl (lw_all_tbl q3599) q138 (by exact pl_X3_bowl) gc_X3 (by first | exact m.1 | exact m0.1 | exact m1.1 | exact m2.1 | exact m3.1 | assumption | exact g_us | (rw [g_un (by omega)]; assumption) | (rw [g_un (by omega)]; exact g_us) | (rw [g_un (by omega), g_un (by omega)]; assumption) | (rw [g_un (by omega), g_un (by omega)]; exact g_us) | (rw [g_un (by omega), g_un (by omega), g_un (by omega)]; assumption) | ((repeat (rw [g_un (by omega)])); first | exact m.1 | exact m0.1 | exact m1.1 | exact m2.1 | exact m3.1 | exact g_us | assumption)) ((k_bowl m1 (by omega) (by decide))) (by omega) (Nat.le_of_ble_eq_true rfl) (by omega) (by omega) rfl (Nat.le_of_ble_eq_true rfl) rfl (kI fun r35 h35 n35 e35 => ?_) kN
      obtain ⟨rfl, rfl, rfl⟩ := e35
      rw [show 22 + 2 * k + 1 = 23 + 2 * k by omega]
      refine r_aload0 dX3_fullestBowl_38 ?_
      refine r_iload1 dX3_fullestBowl_39 ?_
      refine r_iconst (v := nI 1) dX3_fullestBowl_40 (by decide) ?_
      refine r_callV (M' := mX3_bowl) _ dX3_fullestBowl_41 q3596 q3598 qs78 rfl (lw_all_tbl q3599) q138 (by exact pl_X3_bowl) gc_X3 (by first | exact m.1 | exact m0.1 | exact m1.1 | exact m2.1 | exact m3.1 | assumption | exact g_us | (rw [g_un (by omega)]; assumption) | (rw [g_un (by omega)]; exact g_us) | (rw [g_un (by omega), g_un (by omega)]; assumption) | (rw [g_un (by omega), g_un (by omega)]; exact g_us) | (rw [g_un (by omega), g_un (by omega), g_un (by omega)]; assumption) | ((repeat (rw [g_un (by omega)])); first | exact m.1 | exact m0.1 | exact m1.1 | exact m2.1 | exact m3.1 | exact g_us | assumption)) ((k_bowl m1 (by omega) (by decide))) (by omega) (Nat.le_of_ble_eq_true rfl) (by omega) (by omega) rfl (Nat.le_of_ble_eq_true rfl) rfl (kI fun r41 h41 n41 e41 => ?_) kN
      obtain ⟨rfl, rfl, rfl⟩ := e41
      rw [show 22 + 2 * ful (fun k => R 1 (23 + 2 * k)) k + 1 = 23 + 2 * ful (fun k => R 1 (23 + 2 * k)) k by omega]
      refine r_icmp_leN (tgt := 51) dX3_fullestBowl_44 (by decide) (by omega) (by omega) (fun c44 => ?_) (fun c44 => ?_)
      · refine r_iload1 dX3_fullestBowl_51 ?_
        refine r_istore1 dX3_fullestBowl_52 ?_
        refine r_iinc2 dX3_fullestBowl_53 (ii1 _) ?_
        refine r_goto (tgt := 23) dX3_fullestBowl_56 (by decide) ?_
        exact g_eq rfl (by rw [show ful (fun k => R 1 (23 + 2 * k)) (k + 1) = ful (fun k => R 1 (23 + 2 * k)) k from if_neg (Nat.not_lt.mpr c44)]) rfl rfl (ih (k + 1) _ h0 (by omega) (by omega) m1 t1)
      · refine r_iload2 dX3_fullestBowl_47 ?_
        refine r_goto (tgt := 52) dX3_fullestBowl_48 (by decide) ?_
        refine r_istore1 dX3_fullestBowl_52 ?_
        refine r_iinc2 dX3_fullestBowl_53 (ii1 _) ?_
        refine r_goto (tgt := 23) dX3_fullestBowl_56 (by decide) ?_
        exact g_eq rfl (by rw [show ful (fun k => R 1 (23 + 2 * k)) (k + 1) = k from if_pos (Nat.not_le.mp c44)]) rfl rfl (ih (k + 1) _ h0 (by omega) (by omega) m1 t1)
  refine r_aload0 dX3_fullestBowl_0 ?_
  refine r_iconst (v := nI 0) dX3_fullestBowl_1 (by decide) ?_
  refine p_X3_1_X3 dX3_fullestBowl_2 (by omega) (by first | exact m.1 | exact m0.1 | exact m1.1 | exact m2.1 | exact m3.1 | assumption | exact g_us | (rw [g_un (by omega)]; assumption) | (rw [g_un (by omega)]; exact g_us) | (rw [g_un (by omega), g_un (by omega)]; assumption) | (rw [g_un (by omega), g_un (by omega)]; exact g_us) | (rw [g_un (by omega), g_un (by omega), g_un (by omega)]; assumption) | ((repeat (rw [g_un (by omega)])); first | exact m.1 | exact m0.1 | exact m1.1 | exact m2.1 | exact m3.1 | exact g_us | assumption)) ?_
  refine m.goZ (fun h0 m0 t0 => ?_)
  refine r_aload0 dX3_fullestBowl_5 ?_
  refine r_iconst (v := nI 1) dX3_fullestBowl_6 (by decide) ?_
  refine r_callV (M' := mX3_at) _ dX3_fullestBowl_7 q3485 q3487 qs56 rfl (lw_all_tbl q3488) q138 (by exact pl_X3_at) gc_X3 (by first | exact m.1 | exact m0.1 | exact m1.1 | exact m2.1 | exact m3.1 | assumption | exact g_us | (rw [g_un (by omega)]; assumption) | (rw [g_un (by omega)]; exact g_us) | (rw [g_un (by omega), g_un (by omega)]; assumption) | (rw [g_un (by omega), g_un (by omega)]; exact g_us) | (rw [g_un (by omega), g_un (by omega), g_un (by omega)]; assumption) | ((repeat (rw [g_un (by omega)])); first | exact m.1 | exact m0.1 | exact m1.1 | exact m2.1 | exact m3.1 | exact g_us | assumption)) ((k_at m0 (by decide) (by decide))) (by omega) (Nat.le_of_ble_eq_true rfl) (by omega) (by omega) rfl (Nat.le_of_ble_eq_true rfl) rfl (kI fun r7 h7 n7 e7 => ?_) kN
  obtain ⟨rfl, rfl, rfl⟩ := e7
  refine r_if_neN (tgt := 19) dX3_fullestBowl_10 (by decide) (by omega) (fun c10 => ?_) (fun c10 => ?_)
  · refine r_iconst (v := nI 0) dX3_fullestBowl_19 (by decide) ?_
    refine r_istore1 dX3_fullestBowl_20 ?_
    refine r_iconst (v := nI 1) dX3_fullestBowl_21 (by decide) ?_
    refine r_istore2 dX3_fullestBowl_22 ?_
    have e1 : ful (fun k => R 1 (23 + 2 * k)) 1 = 0 := by show (if _ then 0 else 0) = 0; split <;> rfl
    exact g_eq rfl (by rw [e1]) rfl rfl (loop (R 1 1 - 1) 1 _ c10 (by omega) (by omega) m0 t0)
  · refine r_aload0 dX3_fullestBowl_13 ?_
    refine r_iconst (v := nI 1) dX3_fullestBowl_14 (by decide) ?_
    refine r_callV (M' := mX3_fails) _ dX3_fullestBowl_15 q3489 q3491 qs57 rfl (lw_all_tbl q3492) q138 (by exact pl_X3_fails) gc_X3 (by first | exact m.1 | exact m0.1 | exact m1.1 | exact m2.1 | exact m3.1 | assumption | exact g_us | (rw [g_un (by omega)]; assumption) | (rw [g_un (by omega)]; exact g_us) | (rw [g_un (by omega), g_un (by omega)]; assumption) | (rw [g_un (by omega), g_un (by omega)]; exact g_us) | (rw [g_un (by omega), g_un (by omega), g_un (by omega)]; assumption) | ((repeat (rw [g_un (by omega)])); first | exact m.1 | exact m0.1 | exact m1.1 | exact m2.1 | exact m3.1 | exact g_us | assumption)) ((k_fails hb m0)) (by omega) (Nat.le_of_ble_eq_true rfl) (by omega) (by omega) rfl (Nat.le_of_ble_eq_true rfl) rfl (kI fun r15 h15 n15 e15 => ?_) kN
    obtain ⟨rfl, m1, t1, rfl⟩ := e15
    exact r_ireturn dX3_fullestBowl_18 rfl rfl (⟨by rw [if_pos c10]; exact mQ.no (by decide) m1, t0.tr t1, rfl⟩)
end
/-! ranks are a permutation -/
/-- an injection of the numbers below n into themselves hits each -/
theorem pig : ∀ (n : Nat) (f : Nat → Nat), (∀ i, i < n → f i < n) → (∀ i j, i < n → j < n → f i = f j → i = j) → ∀ k, k < n → ∃ i, i < n ∧ f i = k := by
  intro n
  induction n with
  | zero => intro f _ _ k hk; exact absurd hk (Nat.not_lt_zero k)
  | succ n ih =>
    intro f hb hi k hk
    -- swap the value n of f n away
    by_cases hn : f n = k
    · exact ⟨n, Nat.lt_succ_self n, hn⟩
    · -- g: f with the value f n sent to n's place
      have hg := ih (fun i => if f i = n then f n else f i) (fun i h => by
        have h1 := hb i (by omega)
        have h2 := hb n (Nat.lt_succ_self n)
        by_cases z : f i = n
        · rw [if_pos z]
          by_cases y : f n = n
          · have := hi i n (by omega) (by omega) (z.trans y.symm)
            omega
          · omega
        · rw [if_neg z]; omega) (fun i j h h' e => by
        by_cases z : f i = n
        · by_cases y : f j = n
          · exact hi i j (by omega) (by omega) (z.trans y.symm)
          · rw [if_pos z, if_neg y] at e
            have := hi n j (by omega) (by omega) e
            omega
        · by_cases y : f j = n
          · rw [if_neg z, if_pos y] at e
            have := hi i n (by omega) (by omega) e
            omega
          · rw [if_neg z, if_neg y] at e
            exact hi i j (by omega) (by omega) e)
      by_cases hkn : k = n
      · subst hkn
        -- f n ≠ k: f n is below k, so some i has g i = f n
        have h2 := hb k (Nat.lt_succ_self k)
        obtain ⟨i, h3, h4⟩ := hg (f k) (by omega)
        by_cases z : f i = k
        · exact ⟨i, by omega, z⟩
        · rw [if_neg z] at h4
          have := hi i k (by omega) (by omega) h4
          omega
      · obtain ⟨i, h3, h4⟩ := hg k (by omega)
        by_cases z : f i = n
        · rw [if_pos z] at h4
          exact absurd h4 hn
        · rw [if_neg z] at h4
          exact ⟨i, by omega, h4⟩
/-- of a strict total order's ranks: the one that comes before has the smaller rank -/
theorem sm_strict {f g : Nat → Nat} {n k : Nat} (h : ∀ i, i < n → f i ≤ g i) (hk : k < n) (hl : f k < g k) : sm f n < sm g n := by
  induction n with
  | zero => omega
  | succ n ih =>
    show sm f n + f n < sm g n + g n
    have h1 := h n (Nat.lt_succ_self n)
    by_cases z : k = n
    · subst z
      have := sm_le (f := f) (g := g) (n := k) fun i hi => h i (by omega)
      omega
    · have := ih (fun i hi => h i (by omega)) (by omega)
      omega
theorem rkL_lt {ρ : Nat → Nat} {w a b n : Nat} (ha : a < n) (h : ρ (32 + 3 * b + w) < ρ (32 + 3 * a + w) ∨ ρ (32 + 3 * a + w) = ρ (32 + 3 * b + w) ∧ a < b) : rkL ρ w a n < rkL ρ w b n := by
  refine sm_strict (k := a) (fun i hi => ?_) ha ?_
  · by_cases z : ρ (32 + 3 * a + w) < ρ (32 + 3 * i + w) ∨ ρ (32 + 3 * i + w) = ρ (32 + 3 * a + w) ∧ i < a
    · rw [if_pos z, if_pos (by omega)]; exact Nat.le_refl _
    · rw [if_neg z]; exact Nat.zero_le _
  · rw [if_neg (by omega), if_pos (by omega)]
    decide
theorem rkL_n_lt {ρ : Nat → Nat} {w a n : Nat} (ha : a < n) : rkL ρ w a n < n := by
  have h1 : rkL ρ w a n < sm (fun _ => 1) n := by
    refine sm_strict (k := a) (fun i hi => ?_) ha ?_
    · split <;> omega
    · rw [if_neg (by omega)]
      decide
  rw [sm_c] at h1
  omega
theorem rkL_inj {ρ : Nat → Nat} {w a b n : Nat} (ha : a < n) (hb : b < n) (h : rkL ρ w a n = rkL ρ w b n) : a = b := by
  by_cases z : a = b
  · exact z
  · by_cases y : ρ (32 + 3 * b + w) < ρ (32 + 3 * a + w) ∨ ρ (32 + 3 * a + w) = ρ (32 + 3 * b + w) ∧ a < b
    · have := rkL_lt ha y
      omega
    · have := rkL_lt (ρ := ρ) (w := w) (a := b) (b := a) hb (by omega)
      omega
/-- each rank below the number of loaves has its loaf -/
theorem rkL_ex {ρ : Nat → Nat} {w r : Nat} (h : r < ρ 2) : ∃ a, a < ρ 2 ∧ rkL ρ w a (ρ 2) = r :=
  pig (ρ 2) (fun a => rkL ρ w a (ρ 2)) (fun a ha => rkL_n_lt ha) (fun a b ha hb e => rkL_inj ha hb e) r h
theorem fnd_some {P : Nat → Prop} [DecidablePred P] {j : Nat} : ∀ {k i : Nat}, k ≤ i → i < k + j → P i → ∃ i', fnd P k j = some i' := by
  induction j with
  | zero => intro k i h1 h2; omega
  | succ j ih =>
    intro k i h1 h2 hp
    by_cases z : P k
    · exact ⟨k, fnd_y z⟩
    · rw [fnd_n z]
      have : k ≠ i := fun e => z (by rw [e]; exact hp)
      exact ih (i := i) (by omega) (by omega) hp
/-- the loaf at a rank -/
theorem lAt_rk {ρ : Nat → Nat} {w r : Nat} (h : r < ρ 2) (h8 : ρ 2 ≤ 8) : ∃ a, lAt ρ w (nI r) = some a ∧ a < ρ 2 ∧ rkL ρ w a (ρ 2) = r := by
  obtain ⟨a, h1, h2⟩ := rkL_ex (w := w) h
  obtain ⟨a', h3⟩ := fnd_some (P := fun a => nI (rkL ρ w a (ρ 2)) = nI r) (k := 0) (j := ρ 2) (i := a) (Nat.zero_le _) (by omega) (by rw [h2])
  have h4 := fnd_lt h3
  have h5 := rkL_n_lt (ρ := ρ) (w := w) (a := a') (n := ρ 2) (by omega)
  exact ⟨a', h3, by omega, (nI_eq (by omega) (by omega)).mp h4.2.2⟩
