/-! the reference bakes greedily -/
set_option maxRecDepth 100000
/-- the oven that is free first, of the first k + 1 -/
def frO (T : Nat → Nat) : Nat → Nat
  | 0 => 0
  | k + 1 => if T (k + 1) < T (frO T k) then k + 1 else frO T k
theorem frO_le {T : Nat → Nat} : ∀ k, frO T k ≤ k := by
  intro k
  induction k with
  | zero => exact Nat.le_refl _
  | succ k ih => unfold frO; split <;> omega
/-- the loaf at a rank by minutes -/
def lAr (ρ : Nat → Nat) (r : Nat) : Nat := (lAt ρ 1 (nI r)).getD 0
/-- the ovens' times when the first k loaves by rank have been put in -/
def grT (ρ : Nat → Nat) : Nat → Nat → Nat
  | 0 => fun _ => 0
  | k + 1 => fup (grT ρ k) (frO (grT ρ k) (ρ 5 - 1)) (grT ρ k (frO (grT ρ k) (ρ 5 - 1)) + ρ (33 + 3 * lAr ρ k))
def grO (ρ : Nat → Nat) : Nat := lg3 (grT ρ (ρ 2))
theorem grT_b {u : Nat} {ρ : Nat → Nat} (w : wB u ρ) : ∀ k, k ≤ ρ 2 → ∀ j, grT ρ k j ≤ 60 * k := by
  intro k
  induction k with
  | zero => intro _ j; exact Nat.le_refl _
  | succ k ih =>
    intro hk j
    have b := w.b
    have h1 := ih (by omega) j
    have h2 := ih (by omega) (frO (grT ρ k) (ρ 5 - 1))
    obtain ⟨a, q1, q2, -⟩ := lAt_rk (w := 1) (r := k) (ρ := ρ) (by omega) (by omega)
    have q3 : lAr ρ k = a := by unfold lAr; rw [q1]; rfl
    have h3 := w.l q2
    show fup _ _ _ j ≤ _
    rw [q3]
    by_cases z : j = frO (grT ρ k) (ρ 5 - 1)
    · subst z; rw [fup_s]; omega
    · rw [fup_n z]; omega
section
variable {K : g_K} {a n u : Nat} {V : Nat → Nat → Int32} {R : Nat → Nat → Nat} {A : Nat → Nat → Int64} {h : g_P}
theorem k_greedyTime (hb : k_b K ≤ a) (m : mS a V R A h) (w : wB u (R 1)) : g_Met K mX3_greedyTime 4 0 0 [.ref a] h n (gI fun r h' n' => mQ a V R A 0 (grO (R 1)) r h' ∧ mT a h h' ∧ n' = n) gN := by
  have b := w.b
  refine g_Met.of (M := mX3_greedyTime) (L := [some (.ref a), none, none, none]) (by decide +kernel) (Nat.le_of_ble_eq_true rfl) rfl ?_
  have outer : ∀ (g k : Nat) (o2 o3 : Option Value) (h1 : g_P), g_c1 o2 → g_c1 o3 → k + g = R 1 2 → mS a (vT (vZ V) (grT (R 1) k)) R A h1 → mT a h h1 → g_G K mX3_greedyTime 4 0 0 (gI fun r h' n' => mQ a V R A 0 (grO (R 1)) r h' ∧ mT a h h' ∧ n' = n) gN 11 [some (.ref a), some (.int (nI k)), o2, o3] [] h1 n := by
    intro g
    induction g with
    | zero =>
      intro k o2 o3 h1 q2 q3 hk m1 t1
      have hk : k = R 1 2 := by omega
      subst hk
      refine r_iload1 dX3_greedyTime_11 ?_
      refine r_aload0 dX3_greedyTime_12 ?_
      refine r_iconst (v := nI 2) dX3_greedyTime_13 (by decide) ?_
      refine r_callV (M' := mX3_at) _ dX3_greedyTime_14 q3485 q3487 qs56 rfl (lw_all_tbl q3488) q138 (by exact pl_X3_at) gc_X3 (by first | exact m.1 | exact m0.1 | exact m1.1 | exact m2.1 | exact m3.1 | assumption | exact g_us | (rw [g_un (by omega)]; assumption) | (rw [g_un (by omega)]; exact g_us) | (rw [g_un (by omega), g_un (by omega)]; assumption) | (rw [g_un (by omega), g_un (by omega)]; exact g_us) | (rw [g_un (by omega), g_un (by omega), g_un (by omega)]; assumption) | ((repeat (rw [g_un (by omega)])); first | exact m.1 | exact m0.1 | exact m1.1 | exact m2.1 | exact m3.1 | exact g_us | assumption)) ((k_at m1 (by decide) (by decide))) (by omega) (Nat.le_of_ble_eq_true rfl) (by omega) (by omega) rfl (Nat.le_of_ble_eq_true rfl) rfl (kI fun r14 h14 n14 e14 => ?_) kN
      obtain ⟨rfl, rfl, rfl⟩ := e14
      refine r_icmp_geN (tgt := 86) dX3_greedyTime_17 (by decide) (by omega) (by omega) (fun c17 => ?_) (fun c17 => absurd c17 (by omega))
      refine r_aload0 dX3_greedyTime_86 ?_
      refine r_callV (M' := mX3_longest) _ dX3_greedyTime_87 q3826 q3828 qs105 rfl (lw_all_tbl q3829) q138 (by exact pl_X3_longest) gc_X3 (by first | exact m.1 | exact m0.1 | exact m1.1 | exact m2.1 | exact m3.1 | assumption | exact g_us | (rw [g_un (by omega)]; assumption) | (rw [g_un (by omega)]; exact g_us) | (rw [g_un (by omega), g_un (by omega)]; assumption) | (rw [g_un (by omega), g_un (by omega)]; exact g_us) | (rw [g_un (by omega), g_un (by omega), g_un (by omega)]; assumption) | ((repeat (rw [g_un (by omega)])); first | exact m.1 | exact m0.1 | exact m1.1 | exact m2.1 | exact m3.1 | exact g_us | assumption)) ((k_longest m1 (fun j => by have := grT_b w (R 1 2) (Nat.le_refl _) j; omega))) (by omega) (Nat.le_of_ble_eq_true rfl) (by omega) (by omega) rfl (Nat.le_of_ble_eq_true rfl) rfl (kI fun r87 h87 n87 e87 => ?_) kN
      obtain ⟨rfl, rfl, rfl⟩ := e87
      exact r_ireturn dX3_greedyTime_90 rfl rfl (⟨mQ.yes rfl rfl m1 (by rw [vT_0, vZ_0]) (vE.z.tr vT_E), t1, rfl⟩)
    | succ g ih =>
      intro k o2 o3 h1 q2 q3 hk m1 t1
      obtain ⟨l, x1, x2, -⟩ := lAt_rk (w := 1) (r := k) (ρ := R 1) (by omega) (by omega)
      have x3 : lAr (R 1) k = l := by unfold lAr; rw [x1]; rfl
      have bl := w.l x2
      have bT := fun j => grT_b w k (by omega) j
      have inner : ∀ (g2 j : Nat), j + g2 = R 1 5 - 1 → g_G K mX3_greedyTime 4 0 0 (gI fun r h' n' => mQ a V R A 0 (grO (R 1)) r h' ∧ mT a h h' ∧ n' = n) gN 24 [some (.ref a), some (.int (nI k)), some (.int (nI (frO (grT (R 1) k) j))), some (.int (nI (j + 1)))] [] h1 n := by
        intro g2
        induction g2 with
        | zero =>
          intro j hj
          have hj : j = R 1 5 - 1 := by omega
          subst hj
          have fl := frO_le (T := grT (R 1) k) (R 1 5 - 1)
          refine r_iload3 dX3_greedyTime_24 ?_
          refine r_aload0 dX3_greedyTime_25 ?_
          refine r_iconst (v := nI 5) dX3_greedyTime_26 (by decide) ?_
          refine r_callV (M' := mX3_at) _ dX3_greedyTime_27 q3485 q3487 qs56 rfl (lw_all_tbl q3488) q138 (by exact pl_X3_at) gc_X3 (by first | exact m.1 | exact m0.1 | exact m1.1 | exact m2.1 | exact m3.1 | assumption | exact g_us | (rw [g_un (by omega)]; assumption) | (rw [g_un (by omega)]; exact g_us) | (rw [g_un (by omega), g_un (by omega)]; assumption) | (rw [g_un (by omega), g_un (by omega)]; exact g_us) | (rw [g_un (by omega), g_un (by omega), g_un (by omega)]; assumption) | ((repeat (rw [g_un (by omega)])); first | exact m.1 | exact m0.1 | exact m1.1 | exact m2.1 | exact m3.1 | exact g_us | assumption)) ((k_at m1 (by decide) (by decide))) (by omega) (Nat.le_of_ble_eq_true rfl) (by omega) (by omega) rfl (Nat.le_of_ble_eq_true rfl) rfl (kI fun r27 h27 n27 e27 => ?_) kN
          obtain ⟨rfl, rfl, rfl⟩ := e27
          refine r_icmp_geN (tgt := 60) dX3_greedyTime_30 (by decide) (by omega) (by omega) (fun c30 => ?_) (fun c30 => absurd c30 (by omega))
          refine r_aload0 dX3_greedyTime_60 ?_
          refine f_X3_26_X3 dX3_greedyTime_61 m1.1 ?_
          refine r_iload2 dX3_greedyTime_64 ?_
          refine r_dup2 dX3_greedyTime_65 ?_
          refine r_iaload ((frO (grT (R 1) k) (R 1 5 - 1))) dX3_greedyTime_66 m1.tt rfl (by omega) (aI_at (by omega)) ?_
          refine r_aload0 dX3_greedyTime_67 ?_
          refine r_aload0 dX3_greedyTime_68 ?_
          refine r_iload1 dX3_greedyTime_69 ?_
          refine r_iconst (v := nI 1) dX3_greedyTime_70 (by decide) ?_
          refine r_callV (M' := mX3_ranked) _ dX3_greedyTime_71 q3806 q3808 qs102 rfl (lw_all_tbl q3809) q138 (by exact pl_X3_ranked) gc_X3 (by first | exact m.1 | exact m0.1 | exact m1.1 | exact m2.1 | exact m3.1 | assumption | exact g_us | (rw [g_un (by omega)]; assumption) | (rw [g_un (by omega)]; exact g_us) | (rw [g_un (by omega), g_un (by omega)]; assumption) | (rw [g_un (by omega), g_un (by omega)]; exact g_us) | (rw [g_un (by omega), g_un (by omega), g_un (by omega)]; assumption) | ((repeat (rw [g_un (by omega)])); first | exact m.1 | exact m0.1 | exact m1.1 | exact m2.1 | exact m3.1 | exact g_us | assumption)) ((k_ranked m1 w (by decide))) (by omega) (Nat.le_of_ble_eq_true rfl) (by omega) (by omega) rfl (Nat.le_of_ble_eq_true rfl) rfl (kI fun r71 h71 n71 e71 => ?_) kN
          obtain ⟨rfl, rfl, rfl⟩ := e71
          rw [x1]
          dsimp only
          refine r_iconst (v := nI 1) dX3_greedyTime_74 (by decide) ?_
          refine r_callV (M' := mX3_loaf) _ dX3_greedyTime_75 q3580 q3582 qs75 rfl (lw_all_tbl q3583) q138 (by exact pl_X3_loaf) gc_X3 (by first | exact m.1 | exact m0.1 | exact m1.1 | exact m2.1 | exact m3.1 | assumption | exact g_us | (rw [g_un (by omega)]; assumption) | (rw [g_un (by omega)]; exact g_us) | (rw [g_un (by omega), g_un (by omega)]; assumption) | (rw [g_un (by omega), g_un (by omega)]; exact g_us) | (rw [g_un (by omega), g_un (by omega), g_un (by omega)]; assumption) | ((repeat (rw [g_un (by omega)])); first | exact m.1 | exact m0.1 | exact m1.1 | exact m2.1 | exact m3.1 | exact g_us | assumption)) ((k_loaf m1 (by omega) (by decide))) (by omega) (Nat.le_of_ble_eq_true rfl) (by omega) (by omega) rfl (Nat.le_of_ble_eq_true rfl) rfl (kI fun r75 h75 n75 e75 => ?_) kN
          obtain ⟨rfl, rfl, rfl⟩ := e75
          rw [show 32 + 3 * l + 1 = 33 + 3 * l by omega]
          refine r_iadd dX3_greedyTime_78 (by first | exact nI_add _ _ | rfl) ?_
          refine r_iastore ((frO (grT (R 1) k) (R 1 5 - 1))) dX3_greedyTime_79 (by omega) m1.tt rfl (by omega) (by rw [aI_len]; omega) ?_
          have m2 := m1.t (j := frO (grT (R 1) k) (R 1 5 - 1)) (x := grT (R 1) k (frO (grT (R 1) k) (R 1 5 - 1)) + R 1 (33 + 3 * l)) rfl
          refine r_iinc1 dX3_greedyTime_80 (ii1 _) ?_
          refine r_goto (tgt := 11) dX3_greedyTime_83 (by decide) ?_
          exact ih (k + 1) _ _ _ g_c1i g_c1i (by omega) (m2.to (by show _ = vT _ (fup _ _ (_ + R 1 (33 + 3 * lAr (R 1) k))); rw [x3]) rfl rfl) (t1.tr (mT.up (k := 5) (by decide)))
        | succ g2 ih2 =>
          intro j hj
          have fl := frO_le (T := grT (R 1) k) j
          have b1 := bT (j + 1)
          have b2 := bT (frO (grT (R 1) k) j)
          refine r_iload3 dX3_greedyTime_24 ?_
          refine r_aload0 dX3_greedyTime_25 ?_
          refine r_iconst (v := nI 5) dX3_greedyTime_26 (by decide) ?_
          refine r_callV (M' := mX3_at) _ dX3_greedyTime_27 q3485 q3487 qs56 rfl (lw_all_tbl q3488) q138 (by exact pl_X3_at) gc_X3 (by first | exact m.1 | exact m0.1 | exact m1.1 | exact m2.1 | exact m3.1 | assumption | exact g_us | (rw [g_un (by omega)]; assumption) | (rw [g_un (by omega)]; exact g_us) | (rw [g_un (by omega), g_un (by omega)]; assumption) | (rw [g_un (by omega), g_un (by omega)]; exact g_us) | (rw [g_un (by omega), g_un (by omega), g_un (by omega)]; assumption) | ((repeat (rw [g_un (by omega)])); first | exact m.1 | exact m0.1 | exact m1.1 | exact m2.1 | exact m3.1 | exact g_us | assumption)) ((k_at m1 (by decide) (by decide))) (by omega) (Nat.le_of_ble_eq_true rfl) (by omega) (by omega) rfl (Nat.le_of_ble_eq_true rfl) rfl (kI fun r27 h27 n27 e27 => ?_) kN
          obtain ⟨rfl, rfl, rfl⟩ := e27
          refine r_icmp_geN (tgt := 60) dX3_greedyTime_30 (by decide) (by omega) (by omega) (fun c30 => absurd c30 (by omega)) (fun c30 => ?_)
          refine r_aload0 dX3_greedyTime_33 ?_
          refine f_X3_26_X3 dX3_greedyTime_34 m1.1 ?_
          refine r_iload3 dX3_greedyTime_37 ?_
          refine r_iaload ((j + 1)) dX3_greedyTime_38 m1.tt rfl (by omega) (aI_at (by omega)) ?_
          refine r_aload0 dX3_greedyTime_39 ?_
          refine f_X3_26_X3 dX3_greedyTime_40 m1.1 ?_
          refine r_iload2 dX3_greedyTime_43 ?_
          refine r_iaload ((frO (grT (R 1) k) j)) dX3_greedyTime_44 m1.tt rfl (by omega) (aI_at (by omega)) ?_
          refine r_icmp_geN (tgt := 52) dX3_greedyTime_45 (by decide) (by omega) (by omega) (fun c45 => ?_) (fun c45 => ?_)
          · refine r_iload2 dX3_greedyTime_52 ?_
            refine r_istore2 dX3_greedyTime_53 ?_
            refine r_iinc3 dX3_greedyTime_54 (ii1 _) ?_
            refine r_goto (tgt := 24) dX3_greedyTime_57 (by decide) ?_
            exact g_eq rfl (by rw [show frO (grT (R 1) k) (j + 1) = frO (grT (R 1) k) j from if_neg (Nat.not_lt.mpr c45)]) rfl rfl (ih2 (j + 1) (by omega))
          · refine r_iload3 dX3_greedyTime_48 ?_
            refine r_goto (tgt := 53) dX3_greedyTime_49 (by decide) ?_
            refine r_istore2 dX3_greedyTime_53 ?_
            refine r_iinc3 dX3_greedyTime_54 (ii1 _) ?_
            refine r_goto (tgt := 24) dX3_greedyTime_57 (by decide) ?_
            exact g_eq rfl (by rw [show frO (grT (R 1) k) (j + 1) = j + 1 from if_pos (Nat.not_le.mp c45)]) rfl rfl (ih2 (j + 1) (by omega))
      refine r_iload1 dX3_greedyTime_11 ?_
      refine r_aload0 dX3_greedyTime_12 ?_
      refine r_iconst (v := nI 2) dX3_greedyTime_13 (by decide) ?_
      refine r_callV (M' := mX3_at) _ dX3_greedyTime_14 q3485 q3487 qs56 rfl (lw_all_tbl q3488) q138 (by exact pl_X3_at) gc_X3 (by first | exact m.1 | exact m0.1 | exact m1.1 | exact m2.1 | exact m3.1 | assumption | exact g_us | (rw [g_un (by omega)]; assumption) | (rw [g_un (by omega)]; exact g_us) | (rw [g_un (by omega), g_un (by omega)]; assumption) | (rw [g_un (by omega), g_un (by omega)]; exact g_us) | (rw [g_un (by omega), g_un (by omega), g_un (by omega)]; assumption) | ((repeat (rw [g_un (by omega)])); first | exact m.1 | exact m0.1 | exact m1.1 | exact m2.1 | exact m3.1 | exact g_us | assumption)) ((k_at m1 (by decide) (by decide))) (by omega) (Nat.le_of_ble_eq_true rfl) (by omega) (by omega) rfl (Nat.le_of_ble_eq_true rfl) rfl (kI fun r14 h14 n14 e14 => ?_) kN
      obtain ⟨rfl, rfl, rfl⟩ := e14
      refine r_icmp_geN (tgt := 86) dX3_greedyTime_17 (by decide) (by omega) (by omega) (fun c17 => absurd c17 (by omega)) (fun c17 => ?_)
      refine r_iconst (v := nI 0) dX3_greedyTime_20 (by decide) ?_
      refine r_istore2 dX3_greedyTime_21 ?_
      refine r_iconst (v := nI 1) dX3_greedyTime_22 (by decide) ?_
      refine r_istore3 dX3_greedyTime_23 ?_
      exact inner (R 1 5 - 1) 0 (by omega)
  refine r_aload0 dX3_greedyTime_0 ?_
  refine r_iconst (v := nI 0) dX3_greedyTime_1 (by decide) ?_
  refine p_X3_1_X3 dX3_greedyTime_2 (by omega) (by first | exact m.1 | exact m0.1 | exact m1.1 | exact m2.1 | exact m3.1 | assumption | exact g_us | (rw [g_un (by omega)]; assumption) | (rw [g_un (by omega)]; exact g_us) | (rw [g_un (by omega), g_un (by omega)]; assumption) | (rw [g_un (by omega), g_un (by omega)]; exact g_us) | (rw [g_un (by omega), g_un (by omega), g_un (by omega)]; assumption) | ((repeat (rw [g_un (by omega)])); first | exact m.1 | exact m0.1 | exact m1.1 | exact m2.1 | exact m3.1 | exact g_us | assumption)) ?_
  refine m.goZ (fun h0 m0 t0 => ?_)
  refine r_aload0 dX3_greedyTime_5 ?_
  refine r_callV (M' := mX3_starts) _ dX3_greedyTime_6 q3822 q3824 qs104 rfl (lw_all_tbl q3825) q138 (by exact pl_X3_starts) gc_X3 (by first | exact m.1 | exact m0.1 | exact m1.1 | exact m2.1 | exact m3.1 | assumption | exact g_us | (rw [g_un (by omega)]; assumption) | (rw [g_un (by omega)]; exact g_us) | (rw [g_un (by omega), g_un (by omega)]; assumption) | (rw [g_un (by omega), g_un (by omega)]; exact g_us) | (rw [g_un (by omega), g_un (by omega), g_un (by omega)]; assumption) | ((repeat (rw [g_un (by omega)])); first | exact m.1 | exact m0.1 | exact m1.1 | exact m2.1 | exact m3.1 | exact g_us | assumption)) ((k_starts hb m0)) (by omega) (Nat.le_of_ble_eq_true rfl) (by omega) (by omega) rfl (Nat.le_of_ble_eq_true rfl) rfl (kV fun h6 n6 e6 => ?_) kN
  obtain ⟨m1, t1, rfl⟩ := e6
  refine r_iconst (v := nI 0) dX3_greedyTime_9 (by decide) ?_
  refine r_istore1 dX3_greedyTime_10 ?_
  exact outer (R 1 2) 0 _ _ _ g_c1n g_c1n (by omega) m1 (t0.tr t1)
end
