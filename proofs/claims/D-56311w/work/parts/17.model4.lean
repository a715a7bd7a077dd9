/-! the reference: conditions, crumbs, changes -/
set_option maxRecDepth 100000
section
variable {K : g_K} {a n u : Nat} {V : Nat → Nat → Int32} {R : Nat → Nat → Nat} {A : Nat → Nat → Int64} {h : g_P}
theorem k_notDough {p q : Int32} (m : mS a V R A h) (w : wB u (R 1)) : g_Met K mX3_notDough 2 0 0 [.ref a, .int p, .int q] h n (gI fun r h' n' => r = nI (eAd (R 1) p q) ∧ h' = h ∧ n' = n) gN := by
  have b := w.b
  refine g_Met.of (M := mX3_notDough) (L := [some (.ref a), some (.int p), some (.int q)]) (by decide +kernel) (Nat.le_of_ble_eq_true rfl) rfl ?_
  refine r_iload1 dX3_notDough_0 ?_
  refine r_iconst (v := nI 0) dX3_notDough_1 (by decide) ?_
  refine r_sipush (v := nI 9999) dX3_notDough_2 (by decide) ?_
  refine r_callS (M' := mX3_isBetween) _ dX3_notDough_5 q3482 q3483 rfl (lw_all_tbl q3484) q138 (by exact pl_X3_isBetween)  ((k_bt (by decide) (by decide))) (by omega) (Nat.le_of_ble_eq_true rfl) (by omega) (by omega) rfl (Nat.le_of_ble_eq_true rfl) rfl (kI fun r5 h5 n5 e5 => ?_) kN
  obtain ⟨rfl, rfl, rfl⟩ := e5
  refine r_if_eqB (tgt := 21) dX3_notDough_8 (by decide) (fun c8 => ?_) (fun c8 => ?_)
  · refine r_iconst (v := nI 1) dX3_notDough_21 (by decide) ?_
    exact r_ireturn dX3_notDough_22 rfl rfl (⟨by unfold eAd; rw [if_pos (fun z => c8 z.1)], rfl, rfl⟩)
  · refine r_iload2 dX3_notDough_11 ?_
    refine r_iconst (v := nI 1) dX3_notDough_12 (by decide) ?_
    refine r_bipush (v := nI 12) dX3_notDough_13 (by decide) ?_
    refine r_callS (M' := mX3_isBetween) _ dX3_notDough_15 q3482 q3483 rfl (lw_all_tbl q3484) q138 (by exact pl_X3_isBetween)  ((k_bt (by decide) (by decide))) (by omega) (Nat.le_of_ble_eq_true rfl) (by omega) (by omega) rfl (Nat.le_of_ble_eq_true rfl) rfl (kI fun r15 h15 n15 e15 => ?_) kN
    obtain ⟨rfl, rfl, rfl⟩ := e15
    refine r_if_neB (tgt := 23) dX3_notDough_18 (by decide) (fun c18 => ?_) (fun c18 => ?_)
    · refine r_aload0 dX3_notDough_23 ?_
      refine r_iconst (v := nI 0) dX3_notDough_24 (by decide) ?_
      refine r_callV (M' := mX3_at) _ dX3_notDough_25 q3485 q3487 qs56 rfl (lw_all_tbl q3488) q138 (by exact pl_X3_at) gc_X3 (by first | exact m.1 | exact m0.1 | exact m1.1 | exact m2.1 | exact m3.1 | assumption | exact g_us | (rw [g_un (by omega)]; assumption) | (rw [g_un (by omega)]; exact g_us) | (rw [g_un (by omega), g_un (by omega)]; assumption) | (rw [g_un (by omega), g_un (by omega)]; exact g_us) | (rw [g_un (by omega), g_un (by omega), g_un (by omega)]; assumption) | ((repeat (rw [g_un (by omega)])); first | exact m.1 | exact m0.1 | exact m1.1 | exact m2.1 | exact m3.1 | exact g_us | assumption)) ((k_at m (by decide) (by decide))) (by omega) (Nat.le_of_ble_eq_true rfl) (by omega) (by omega) rfl (Nat.le_of_ble_eq_true rfl) rfl (kI fun r25 h25 n25 e25 => ?_) kN
      obtain ⟨rfl, rfl, rfl⟩ := e25
      refine r_bipush (v := nI 6) dX3_notDough_28 (by decide) ?_
      refine r_icmp_neN (tgt := 37) dX3_notDough_30 (by decide) (by omega) (by omega) (fun c30 => ?_) (fun c30 => ?_)
      · refine r_iconst (v := nI 0) dX3_notDough_37 (by decide) ?_
        exact r_ireturn dX3_notDough_38 rfl rfl (⟨by unfold eAd; rw [if_neg (fun z => z ⟨c8, c18⟩), if_neg c30], rfl, rfl⟩)
      · refine r_iconst (v := nI 2) dX3_notDough_33 (by decide) ?_
        refine r_goto (tgt := 38) dX3_notDough_34 (by decide) ?_
        exact r_ireturn dX3_notDough_38 rfl rfl (⟨by unfold eAd; rw [if_neg (fun z => z ⟨c8, c18⟩), if_pos c30], rfl, rfl⟩)
    · refine r_iconst (v := nI 1) dX3_notDough_21 (by decide) ?_
      exact r_ireturn dX3_notDough_22 rfl rfl (⟨by unfold eAd; rw [if_pos (fun z => c18 z.2)], rfl, rfl⟩)
theorem k_notBowl {p : Int32} (m : mS a V R A h) (w : wB u (R 1)) : g_Met K mX3_notBowl 2 0 0 [.ref a, .int p] h n (gI fun r h' n' => r = nI (eBo (R 1) p) ∧ h' = h ∧ n' = n) gN := by
  have b := w.b
  refine g_Met.of (M := mX3_notBowl) (L := [some (.ref a), some (.int p)]) (by decide +kernel) (Nat.le_of_ble_eq_true rfl) rfl ?_
  refine r_iload1 dX3_notBowl_0 ?_
  refine r_iconst (v := nI 1) dX3_notBowl_1 (by decide) ?_
  refine r_sipush (v := nI 9999) dX3_notBowl_2 (by decide) ?_
  refine r_callS (M' := mX3_isBetween) _ dX3_notBowl_5 q3482 q3483 rfl (lw_all_tbl q3484) q138 (by exact pl_X3_isBetween)  ((k_bt (by decide) (by decide))) (by omega) (Nat.le_of_ble_eq_true rfl) (by omega) (by omega) rfl (Nat.le_of_ble_eq_true rfl) rfl (kI fun r5 h5 n5 e5 => ?_) kN
  obtain ⟨rfl, rfl, rfl⟩ := e5
  refine r_if_neB (tgt := 13) dX3_notBowl_8 (by decide) (fun c8 => ?_) (fun c8 => ?_)
  · refine r_aload0 dX3_notBowl_13 ?_
    refine r_iconst (v := nI 1) dX3_notBowl_14 (by decide) ?_
    refine r_callV (M' := mX3_at) _ dX3_notBowl_15 q3485 q3487 qs56 rfl (lw_all_tbl q3488) q138 (by exact pl_X3_at) gc_X3 (by first | exact m.1 | exact m0.1 | exact m1.1 | exact m2.1 | exact m3.1 | assumption | exact g_us | (rw [g_un (by omega)]; assumption) | (rw [g_un (by omega)]; exact g_us) | (rw [g_un (by omega), g_un (by omega)]; assumption) | (rw [g_un (by omega), g_un (by omega)]; exact g_us) | (rw [g_un (by omega), g_un (by omega), g_un (by omega)]; assumption) | ((repeat (rw [g_un (by omega)])); first | exact m.1 | exact m0.1 | exact m1.1 | exact m2.1 | exact m3.1 | exact g_us | assumption)) ((k_at m (by decide) (by decide))) (by omega) (Nat.le_of_ble_eq_true rfl) (by omega) (by omega) rfl (Nat.le_of_ble_eq_true rfl) rfl (kI fun r15 h15 n15 e15 => ?_) kN
    obtain ⟨rfl, rfl, rfl⟩ := e15
    refine r_iconst (v := nI 5) dX3_notBowl_18 (by decide) ?_
    refine r_icmp_neN (tgt := 26) dX3_notBowl_19 (by decide) (by omega) (by omega) (fun c19 => ?_) (fun c19 => ?_)
    · refine r_iconst (v := nI 0) dX3_notBowl_26 (by decide) ?_
      exact r_ireturn dX3_notBowl_27 rfl rfl (⟨by unfold eBo; rw [if_neg (fun z => z c8), if_neg c19], rfl, rfl⟩)
    · refine r_iconst (v := nI 2) dX3_notBowl_22 (by decide) ?_
      refine r_goto (tgt := 27) dX3_notBowl_23 (by decide) ?_
      exact r_ireturn dX3_notBowl_27 rfl rfl (⟨by unfold eBo; rw [if_neg (fun z => z c8), if_pos c19], rfl, rfl⟩)
  · refine r_iconst (v := nI 1) dX3_notBowl_11 (by decide) ?_
    exact r_ireturn dX3_notBowl_12 rfl rfl (⟨by unfold eBo; rw [if_pos c8], rfl, rfl⟩)
theorem k_notLoaf {p q : Int32} (m : mS a V R A h) (w : wB u (R 1)) : g_Met K mX3_notLoaf 2 0 0 [.ref a, .int p, .int q] h n (gI fun r h' n' => r = nI (eLo (R 1) p q) ∧ h' = h ∧ n' = n) gN := by
  have b := w.b
  refine g_Met.of (M := mX3_notLoaf) (L := [some (.ref a), some (.int p), some (.int q)]) (by decide +kernel) (Nat.le_of_ble_eq_true rfl) rfl ?_
  refine r_iload1 dX3_notLoaf_0 ?_
  refine r_iconst (v := nI 1) dX3_notLoaf_1 (by decide) ?_
  refine r_bipush (v := nI 20) dX3_notLoaf_2 (by decide) ?_
  refine r_callS (M' := mX3_isBetween) _ dX3_notLoaf_4 q3482 q3483 rfl (lw_all_tbl q3484) q138 (by exact pl_X3_isBetween)  ((k_bt (by decide) (by decide))) (by omega) (Nat.le_of_ble_eq_true rfl) (by omega) (by omega) rfl (Nat.le_of_ble_eq_true rfl) rfl (kI fun r4 h4 n4 e4 => ?_) kN
  obtain ⟨rfl, rfl, rfl⟩ := e4
  refine r_if_eqB (tgt := 20) dX3_notLoaf_7 (by decide) (fun c7 => ?_) (fun c7 => ?_)
  · refine r_iconst (v := nI 1) dX3_notLoaf_20 (by decide) ?_
    exact r_ireturn dX3_notLoaf_21 rfl rfl (⟨by unfold eLo; rw [if_pos (fun z => c7 z.1)], rfl, rfl⟩)
  · refine r_iload2 dX3_notLoaf_10 ?_
    refine r_iconst (v := nI 1) dX3_notLoaf_11 (by decide) ?_
    refine r_bipush (v := nI 60) dX3_notLoaf_12 (by decide) ?_
    refine r_callS (M' := mX3_isBetween) _ dX3_notLoaf_14 q3482 q3483 rfl (lw_all_tbl q3484) q138 (by exact pl_X3_isBetween)  ((k_bt (by decide) (by decide))) (by omega) (Nat.le_of_ble_eq_true rfl) (by omega) (by omega) rfl (Nat.le_of_ble_eq_true rfl) rfl (kI fun r14 h14 n14 e14 => ?_) kN
    obtain ⟨rfl, rfl, rfl⟩ := e14
    refine r_if_neB (tgt := 22) dX3_notLoaf_17 (by decide) (fun c17 => ?_) (fun c17 => ?_)
    · refine r_aload0 dX3_notLoaf_22 ?_
      refine r_iconst (v := nI 2) dX3_notLoaf_23 (by decide) ?_
      refine r_callV (M' := mX3_at) _ dX3_notLoaf_24 q3485 q3487 qs56 rfl (lw_all_tbl q3488) q138 (by exact pl_X3_at) gc_X3 (by first | exact m.1 | exact m0.1 | exact m1.1 | exact m2.1 | exact m3.1 | assumption | exact g_us | (rw [g_un (by omega)]; assumption) | (rw [g_un (by omega)]; exact g_us) | (rw [g_un (by omega), g_un (by omega)]; assumption) | (rw [g_un (by omega), g_un (by omega)]; exact g_us) | (rw [g_un (by omega), g_un (by omega), g_un (by omega)]; assumption) | ((repeat (rw [g_un (by omega)])); first | exact m.1 | exact m0.1 | exact m1.1 | exact m2.1 | exact m3.1 | exact g_us | assumption)) ((k_at m (by decide) (by decide))) (by omega) (Nat.le_of_ble_eq_true rfl) (by omega) (by omega) rfl (Nat.le_of_ble_eq_true rfl) rfl (kI fun r24 h24 n24 e24 => ?_) kN
      obtain ⟨rfl, rfl, rfl⟩ := e24
      refine r_bipush (v := nI 8) dX3_notLoaf_27 (by decide) ?_
      refine r_icmp_neN (tgt := 36) dX3_notLoaf_29 (by decide) (by omega) (by omega) (fun c29 => ?_) (fun c29 => ?_)
      · refine r_iconst (v := nI 0) dX3_notLoaf_36 (by decide) ?_
        exact r_ireturn dX3_notLoaf_37 rfl rfl (⟨by unfold eLo; rw [if_neg (fun z => z ⟨c7, c17⟩), if_neg c29], rfl, rfl⟩)
      · refine r_iconst (v := nI 2) dX3_notLoaf_32 (by decide) ?_
        refine r_goto (tgt := 37) dX3_notLoaf_33 (by decide) ?_
        exact r_ireturn dX3_notLoaf_37 rfl rfl (⟨by unfold eLo; rw [if_neg (fun z => z ⟨c7, c17⟩), if_pos c29], rfl, rfl⟩)
    · refine r_iconst (v := nI 1) dX3_notLoaf_20 (by decide) ?_
      exact r_ireturn dX3_notLoaf_21 rfl rfl (⟨by unfold eLo; rw [if_pos (fun z => c17 z.2)], rfl, rfl⟩)
theorem k_notScale {p : Int32} (m : mS a V R A h) (w : wB u (R 1)) : g_Met K mX3_notScale 4 0 0 [.ref a, .int p] h n (gI fun r h' n' => r = nI (eSc (R 1) p) ∧ h' = h ∧ n' = n) gN := by
  have b := w.b
  have b1 := cts_b w (Nat.le_refl _)
  have b2 := ilv_b w (Nat.le_refl _)
  have b1 : cts (R 1) ≤ 49995 := b1
  have b2 : ilv (R 1) ≤ 79992 * u := b2
  refine g_Met.of (M := mX3_notScale) (L := [some (.ref a), some (.int p)]) (by decide +kernel) (Nat.le_of_ble_eq_true rfl) rfl ?_
  refine r_iload1 dX3_notScale_0 ?_
  refine r_iconst (v := nI 0) dX3_notScale_1 (by decide) ?_
  refine r_iconst (v := nI 4) dX3_notScale_2 (by decide) ?_
  refine r_callS (M' := mX3_isBetween) _ dX3_notScale_3 q3482 q3483 rfl (lw_all_tbl q3484) q138 (by exact pl_X3_isBetween)  ((k_bt (by decide) (by decide))) (by omega) (Nat.le_of_ble_eq_true rfl) (by omega) (by omega) rfl (Nat.le_of_ble_eq_true rfl) rfl (kI fun r3 h3 n3 e3 => ?_) kN
  obtain ⟨rfl, rfl, rfl⟩ := e3
  refine r_if_neB (tgt := 11) dX3_notScale_6 (by decide) (fun c6 => ?_) (fun c6 => ?_)
  · refine r_aload0 dX3_notScale_11 ?_
    refine r_callV (M' := mX3_contents) _ dX3_notScale_12 q3592 q3594 qs77 rfl (lw_all_tbl q3595) q138 (by exact pl_X3_contents) gc_X3 (by first | exact m.1 | exact m0.1 | exact m1.1 | exact m2.1 | exact m3.1 | assumption | exact g_us | (rw [g_un (by omega)]; assumption) | (rw [g_un (by omega)]; exact g_us) | (rw [g_un (by omega), g_un (by omega)]; assumption) | (rw [g_un (by omega), g_un (by omega)]; exact g_us) | (rw [g_un (by omega), g_un (by omega), g_un (by omega)]; assumption) | ((repeat (rw [g_un (by omega)])); first | exact m.1 | exact m0.1 | exact m1.1 | exact m2.1 | exact m3.1 | exact g_us | assumption)) ((k_contents m w)) (by omega) (Nat.le_of_ble_eq_true rfl) (by omega) (by omega) rfl (Nat.le_of_ble_eq_true rfl) rfl (kI fun r12 h12 n12 e12 => ?_) kN
    obtain ⟨rfl, rfl, rfl⟩ := e12
    refine r_aload0 dX3_notScale_15 ?_
    refine r_callV (M' := mX3_inLoaves) _ dX3_notScale_16 q3600 q3602 qs79 rfl (lw_all_tbl q3603) q138 (by exact pl_X3_inLoaves) gc_X3 (by first | exact m.1 | exact m0.1 | exact m1.1 | exact m2.1 | exact m3.1 | assumption | exact g_us | (rw [g_un (by omega)]; assumption) | (rw [g_un (by omega)]; exact g_us) | (rw [g_un (by omega), g_un (by omega)]; assumption) | (rw [g_un (by omega), g_un (by omega)]; exact g_us) | (rw [g_un (by omega), g_un (by omega), g_un (by omega)]; assumption) | ((repeat (rw [g_un (by omega)])); first | exact m.1 | exact m0.1 | exact m1.1 | exact m2.1 | exact m3.1 | exact g_us | assumption)) ((k_inLoaves m w)) (by omega) (Nat.le_of_ble_eq_true rfl) (by omega) (by omega) rfl (Nat.le_of_ble_eq_true rfl) rfl (kI fun r16 h16 n16 e16 => ?_) kN
    obtain ⟨rfl, rfl, rfl⟩ := e16
    refine r_iadd dX3_notScale_19 (by first | exact nI_add _ _ | rfl) ?_
    refine r_if_leN (tgt := 27) dX3_notScale_20 (by decide) (by omega) (fun c20 => ?_) (fun c20 => ?_)
    · refine r_iconst (v := nI 0) dX3_notScale_27 (by decide) ?_
      exact r_ireturn dX3_notScale_28 rfl rfl (⟨by unfold eSc; rw [if_neg (fun z => z c6), if_neg (by omega)], rfl, rfl⟩)
    · refine r_iconst (v := nI 2) dX3_notScale_23 (by decide) ?_
      refine r_goto (tgt := 28) dX3_notScale_24 (by decide) ?_
      exact r_ireturn dX3_notScale_28 rfl rfl (⟨by unfold eSc; rw [if_neg (fun z => z c6), if_pos (by omega)], rfl, rfl⟩)
  · refine r_iconst (v := nI 1) dX3_notScale_9 (by decide) ?_
    exact r_ireturn dX3_notScale_10 rfl rfl (⟨by unfold eSc; rw [if_pos c6], rfl, rfl⟩)
theorem k_isRule {p : Int32} : g_Met K mX3_isRule 1 0 0 [.int p] h n (gI fun r h' n' => r = nB (ruI p) ∧ h' = h ∧ n' = n) gN := by
  refine g_Met.of (M := mX3_isRule) (L := [some (.int p)]) (by decide +kernel) (Nat.le_of_ble_eq_true rfl) rfl ?_
  refine r_iload0 dX3_isRule_0 ?_
  refine r_bipush (v := nI 100) dX3_isRule_1 (by decide) ?_
  refine r_icmp_eq (tgt := 24) dX3_isRule_3 (by decide) (fun c3 => ?_) (fun c3 => ?_)
  · refine r_iconst (v := nI 1) dX3_isRule_24 (by decide) ?_
    refine r_goto (tgt := 29) dX3_isRule_25 (by decide) ?_
    exact r_ireturn dX3_isRule_29 rfl (by first | exact nB_nar | rfl) (⟨nB_t (Or.inl c3), rfl, rfl⟩)
  · refine r_iload0 dX3_isRule_6 ?_
    refine r_bipush (v := nI 117) dX3_isRule_7 (by decide) ?_
    refine r_icmp_eq (tgt := 24) dX3_isRule_9 (by decide) (fun c9 => ?_) (fun c9 => ?_)
    · refine r_iconst (v := nI 1) dX3_isRule_24 (by decide) ?_
      refine r_goto (tgt := 29) dX3_isRule_25 (by decide) ?_
      exact r_ireturn dX3_isRule_29 rfl (by first | exact nB_nar | rfl) (⟨nB_t (Or.inr (Or.inl c9)), rfl, rfl⟩)
    · refine r_iload0 dX3_isRule_12 ?_
      refine r_bipush (v := nI 104) dX3_isRule_13 (by decide) ?_
      refine r_icmp_eq (tgt := 24) dX3_isRule_15 (by decide) (fun c15 => ?_) (fun c15 => ?_)
      · refine r_iconst (v := nI 1) dX3_isRule_24 (by decide) ?_
        refine r_goto (tgt := 29) dX3_isRule_25 (by decide) ?_
        exact r_ireturn dX3_isRule_29 rfl (by first | exact nB_nar | rfl) (⟨nB_t (Or.inr (Or.inr (Or.inl c15))), rfl, rfl⟩)
      · refine r_iload0 dX3_isRule_18 ?_
        refine r_bipush (v := nI 101) dX3_isRule_19 (by decide) ?_
        refine r_icmp_ne (tgt := 28) dX3_isRule_21 (by decide) (fun c21 => ?_) (fun c21 => ?_)
        · refine r_iconst (v := nI 0) dX3_isRule_28 (by decide) ?_
          exact r_ireturn dX3_isRule_29 rfl (by first | exact nB_nar | rfl) (⟨nB_f (fun z => by rcases z with z | z | z | z <;> contradiction), rfl, rfl⟩)
        · refine r_iconst (v := nI 1) dX3_isRule_24 (by decide) ?_
          refine r_goto (tgt := 29) dX3_isRule_25 (by decide) ?_
          exact r_ireturn dX3_isRule_29 rfl (by first | exact nB_nar | rfl) (⟨nB_t (Or.inr (Or.inr (Or.inr c21))), rfl, rfl⟩)
theorem k_notPour {p q : Int32} (m : mS a V R A h) (w : wB u (R 1)) : g_Met K mX3_notPour 3 0 0 [.ref a, .int p, .int q] h n (gI fun r h' n' => r = nI (ePo (R 1) p q) ∧ h' = h ∧ n' = n) gN := by
  refine g_Met.of (M := mX3_notPour) (L := [some (.ref a), some (.int p), some (.int q)]) (by decide +kernel) (Nat.le_of_ble_eq_true rfl) rfl ?_
  refine r_aload0 dX3_notPour_0 ?_
  refine r_iload1 dX3_notPour_1 ?_
  refine r_callV (M' := mX3_isDough) _ dX3_notPour_2 q3524 q3526 qs64 rfl (lw_all_tbl q3527) q138 (by exact pl_X3_isDough) gc_X3 (by first | exact m.1 | exact m0.1 | exact m1.1 | exact m2.1 | exact m3.1 | assumption | exact g_us | (rw [g_un (by omega)]; assumption) | (rw [g_un (by omega)]; exact g_us) | (rw [g_un (by omega), g_un (by omega)]; assumption) | (rw [g_un (by omega), g_un (by omega)]; exact g_us) | (rw [g_un (by omega), g_un (by omega), g_un (by omega)]; assumption) | ((repeat (rw [g_un (by omega)])); first | exact m.1 | exact m0.1 | exact m1.1 | exact m2.1 | exact m3.1 | exact g_us | assumption)) ((k_isDough m w)) (by omega) (Nat.le_of_ble_eq_true rfl) (by omega) (by omega) rfl (Nat.le_of_ble_eq_true rfl) rfl (kI fun r2 h2 n2 e2 => ?_) kN
  obtain ⟨rfl, rfl, rfl⟩ := e2
  refine r_if_eqB (tgt := 20) dX3_notPour_5 (by decide) (fun c5 => ?_) (fun c5 => ?_)
  · refine r_iconst (v := nI 1) dX3_notPour_20 (by decide) ?_
    exact r_ireturn dX3_notPour_21 rfl rfl (⟨by unfold ePo; rw [if_neg (fun z => c5 z.1)], rfl, rfl⟩)
  · refine r_aload0 dX3_notPour_8 ?_
    refine r_iload2 dX3_notPour_9 ?_
    refine r_callV (M' := mX3_isBowl) _ dX3_notPour_10 q3623 q3625 qs82 rfl (lw_all_tbl q3626) q138 (by exact pl_X3_isBowl) gc_X3 (by first | exact m.1 | exact m0.1 | exact m1.1 | exact m2.1 | exact m3.1 | assumption | exact g_us | (rw [g_un (by omega)]; assumption) | (rw [g_un (by omega)]; exact g_us) | (rw [g_un (by omega), g_un (by omega)]; assumption) | (rw [g_un (by omega), g_un (by omega)]; exact g_us) | (rw [g_un (by omega), g_un (by omega), g_un (by omega)]; assumption) | ((repeat (rw [g_un (by omega)])); first | exact m.1 | exact m0.1 | exact m1.1 | exact m2.1 | exact m3.1 | exact g_us | assumption)) ((k_isBowl m w)) (by omega) (Nat.le_of_ble_eq_true rfl) (by omega) (by omega) rfl (Nat.le_of_ble_eq_true rfl) rfl (kI fun r10 h10 n10 e10 => ?_) kN
    obtain ⟨rfl, rfl, rfl⟩ := e10
    refine r_if_eqB (tgt := 20) dX3_notPour_13 (by decide) (fun c13 => ?_) (fun c13 => ?_)
    · refine r_iconst (v := nI 1) dX3_notPour_20 (by decide) ?_
      exact r_ireturn dX3_notPour_21 rfl rfl (⟨by unfold ePo; rw [if_neg (fun z => c13 z.2)], rfl, rfl⟩)
    · refine r_iconst (v := nI 0) dX3_notPour_16 (by decide) ?_
      refine r_goto (tgt := 21) dX3_notPour_17 (by decide) ?_
      exact r_ireturn dX3_notPour_21 rfl rfl (⟨by unfold ePo; rw [if_pos ⟨c5, c13⟩], rfl, rfl⟩)
theorem k_notBake {p : Int32} (m : mS a V R A h) (w : wB u (R 1)) : g_Met K mX3_notBake 3 0 0 [.ref a, .int p] h n (gI fun r h' n' => r = nI (eBa (R 1) p) ∧ h' = h ∧ n' = n) gN := by
  have b := w.b
  refine g_Met.of (M := mX3_notBake) (L := [some (.ref a), some (.int p)]) (by decide +kernel) (Nat.le_of_ble_eq_true rfl) rfl ?_
  refine r_aload0 dX3_notBake_0 ?_
  refine r_iload1 dX3_notBake_1 ?_
  refine r_callV (M' := mX3_isBowl) _ dX3_notBake_2 q3623 q3625 qs82 rfl (lw_all_tbl q3626) q138 (by exact pl_X3_isBowl) gc_X3 (by first | exact m.1 | exact m0.1 | exact m1.1 | exact m2.1 | exact m3.1 | assumption | exact g_us | (rw [g_un (by omega)]; assumption) | (rw [g_un (by omega)]; exact g_us) | (rw [g_un (by omega), g_un (by omega)]; assumption) | (rw [g_un (by omega), g_un (by omega)]; exact g_us) | (rw [g_un (by omega), g_un (by omega), g_un (by omega)]; assumption) | ((repeat (rw [g_un (by omega)])); first | exact m.1 | exact m0.1 | exact m1.1 | exact m2.1 | exact m3.1 | exact g_us | assumption)) ((k_isBowl m w)) (by omega) (Nat.le_of_ble_eq_true rfl) (by omega) (by omega) rfl (Nat.le_of_ble_eq_true rfl) rfl (kI fun r2 h2 n2 e2 => ?_) kN
  obtain ⟨rfl, rfl, rfl⟩ := e2
  refine r_if_neB (tgt := 10) dX3_notBake_5 (by decide) (fun c5 => ?_) (fun c5 => ?_)
  · refine r_aload0 dX3_notBake_10 ?_
    refine r_iconst (v := nI 2) dX3_notBake_11 (by decide) ?_
    refine r_callV (M' := mX3_at) _ dX3_notBake_12 q3485 q3487 qs56 rfl (lw_all_tbl q3488) q138 (by exact pl_X3_at) gc_X3 (by first | exact m.1 | exact m0.1 | exact m1.1 | exact m2.1 | exact m3.1 | assumption | exact g_us | (rw [g_un (by omega)]; assumption) | (rw [g_un (by omega)]; exact g_us) | (rw [g_un (by omega), g_un (by omega)]; assumption) | (rw [g_un (by omega), g_un (by omega)]; exact g_us) | (rw [g_un (by omega), g_un (by omega), g_un (by omega)]; assumption) | ((repeat (rw [g_un (by omega)])); first | exact m.1 | exact m0.1 | exact m1.1 | exact m2.1 | exact m3.1 | exact g_us | assumption)) ((k_at m (by decide) (by decide))) (by omega) (Nat.le_of_ble_eq_true rfl) (by omega) (by omega) rfl (Nat.le_of_ble_eq_true rfl) rfl (kI fun r12 h12 n12 e12 => ?_) kN
    obtain ⟨rfl, rfl, rfl⟩ := e12
    refine r_if_neN (tgt := 20) dX3_notBake_15 (by decide) (by omega) (fun c15 => ?_) (fun c15 => ?_)
    · obtain ⟨i, hi, rfl, ti⟩ := ix_ex c5
      have b3 := w.o hi
      refine r_aload0 dX3_notBake_20 ?_
      refine r_iload1 dX3_notBake_21 ?_
      refine r_iconst (v := nI 1) dX3_notBake_22 (by decide) ?_
      refine r_callV (M' := mX3_bowl) _ dX3_notBake_23 q3596 q3598 qs78 rfl (lw_all_tbl q3599) q138 (by exact pl_X3_bowl) gc_X3 (by first | exact m.1 | exact m0.1 | exact m1.1 | exact m2.1 | exact m3.1 | assumption | exact g_us | (rw [g_un (by omega)]; assumption) | (rw [g_un (by omega)]; exact g_us) | (rw [g_un (by omega), g_un (by omega)]; assumption) | (rw [g_un (by omega), g_un (by omega)]; exact g_us) | (rw [g_un (by omega), g_un (by omega), g_un (by omega)]; assumption) | ((repeat (rw [g_un (by omega)])); first | exact m.1 | exact m0.1 | exact m1.1 | exact m2.1 | exact m3.1 | exact g_us | assumption)) ((k_bowl m (by omega) (by decide))) (by omega) (Nat.le_of_ble_eq_true rfl) (by omega) (by omega) rfl (Nat.le_of_ble_eq_true rfl) rfl (kI fun r23 h23 n23 e23 => ?_) kN
      obtain ⟨rfl, rfl, rfl⟩ := e23
      rw [show 22 + 2 * i + 1 = 23 + 2 * i by omega]
      refine r_if_neN (tgt := 33) dX3_notBake_26 (by decide) (by omega) (fun c26 => ?_) (fun c26 => ?_)
      · refine r_iconst (v := nI 0) dX3_notBake_33 (by decide) ?_
        exact r_ireturn dX3_notBake_34 rfl rfl (⟨by unfold eBa; rw [if_neg (fun z => z c5), if_neg c15, ti, if_neg c26], rfl, rfl⟩)
      · refine r_iconst (v := nI 3) dX3_notBake_29 (by decide) ?_
        refine r_goto (tgt := 34) dX3_notBake_30 (by decide) ?_
        exact r_ireturn dX3_notBake_34 rfl rfl (⟨by unfold eBa; rw [if_neg (fun z => z c5), if_neg c15, ti, if_pos c26], rfl, rfl⟩)
    · refine r_iconst (v := nI 2) dX3_notBake_18 (by decide) ?_
      exact r_ireturn dX3_notBake_19 rfl rfl (⟨by unfold eBa; rw [if_neg (fun z => z c5), if_pos c15], rfl, rfl⟩)
  · refine r_iconst (v := nI 1) dX3_notBake_8 (by decide) ?_
    exact r_ireturn dX3_notBake_9 rfl rfl (⟨by unfold eBa; rw [if_pos c5], rfl, rfl⟩)
theorem k_notOvens {p : Int32} : g_Met K mX3_notOvens 2 0 0 [.int p] h n (gI fun r h' n' => r = nI (eOv p) ∧ h' = h ∧ n' = n) gN := by
  refine g_Met.of (M := mX3_notOvens) (L := [some (.int p)]) (by decide +kernel) (Nat.le_of_ble_eq_true rfl) rfl ?_
  refine r_iload0 dX3_notOvens_0 ?_
  refine r_iconst (v := nI 1) dX3_notOvens_1 (by decide) ?_
  refine r_iconst (v := nI 3) dX3_notOvens_2 (by decide) ?_
  refine r_callS (M' := mX3_isBetween) _ dX3_notOvens_3 q3482 q3483 rfl (lw_all_tbl q3484) q138 (by exact pl_X3_isBetween)  ((k_bt (by decide) (by decide))) (by omega) (Nat.le_of_ble_eq_true rfl) (by omega) (by omega) rfl (Nat.le_of_ble_eq_true rfl) rfl (kI fun r3 h3 n3 e3 => ?_) kN
  obtain ⟨rfl, rfl, rfl⟩ := e3
  refine r_if_eqB (tgt := 13) dX3_notOvens_6 (by decide) (fun c6 => ?_) (fun c6 => ?_)
  · refine r_iconst (v := nI 1) dX3_notOvens_13 (by decide) ?_
    exact r_ireturn dX3_notOvens_14 rfl rfl (⟨by unfold eOv; rw [if_neg c6], rfl, rfl⟩)
  · refine r_iconst (v := nI 0) dX3_notOvens_9 (by decide) ?_
    refine r_goto (tgt := 14) dX3_notOvens_10 (by decide) ?_
    exact r_ireturn dX3_notOvens_14 rfl rfl (⟨by unfold eOv; rw [if_pos c6], rfl, rfl⟩)
/-! crumbs -/
theorem k_power (m : mS a V R A h) (w : wB u (R 1)) : g_Met K mX3_power 2 0 0 [.ref a] h n (gI fun r h' n' => r = nI (10 ^ R 1 3) ∧ h' = h ∧ n' = n) gN := by
  have b := w.b
  refine g_Met.of (M := mX3_power) (L := [some (.ref a), none, none]) (by decide +kernel) (Nat.le_of_ble_eq_true rfl) rfl ?_
  have loop : ∀ (j k : Nat), k + j = R 1 3 → g_G K mX3_power 2 0 0 (gI fun r h' n' => r = nI (10 ^ R 1 3) ∧ h' = h ∧ n' = n) gN 4 [some (.ref a), some (.int (nI (10 ^ k))), some (.int (nI k))] [] h n := by
    intro j
    induction j with
    | zero =>
      intro k hk
      refine r_iload2 dX3_power_4 ?_
      refine r_aload0 dX3_power_5 ?_
      refine r_iconst (v := nI 3) dX3_power_6 (by decide) ?_
      refine r_callV (M' := mX3_at) _ dX3_power_7 q3485 q3487 qs56 rfl (lw_all_tbl q3488) q138 (by exact pl_X3_at) gc_X3 (by first | exact m.1 | exact m0.1 | exact m1.1 | exact m2.1 | exact m3.1 | assumption | exact g_us | (rw [g_un (by omega)]; assumption) | (rw [g_un (by omega)]; exact g_us) | (rw [g_un (by omega), g_un (by omega)]; assumption) | (rw [g_un (by omega), g_un (by omega)]; exact g_us) | (rw [g_un (by omega), g_un (by omega), g_un (by omega)]; assumption) | ((repeat (rw [g_un (by omega)])); first | exact m.1 | exact m0.1 | exact m1.1 | exact m2.1 | exact m3.1 | exact g_us | assumption)) ((k_at m (by decide) (by decide))) (by omega) (Nat.le_of_ble_eq_true rfl) (by omega) (by omega) rfl (Nat.le_of_ble_eq_true rfl) rfl (kI fun r7 h7 n7 e7 => ?_) kN
      obtain ⟨rfl, rfl, rfl⟩ := e7
      refine r_icmp_geN (tgt := 24) dX3_power_10 (by decide) (by omega) (by omega) (fun c10 => ?_) (fun c10 => absurd c10 (by omega))
      refine r_iload1 dX3_power_24 ?_
      exact r_ireturn dX3_power_25 rfl rfl (⟨by rw [show k = R 1 3 by omega], rfl, rfl⟩)
    | succ j ih =>
      intro k hk
      refine r_iload2 dX3_power_4 ?_
      refine r_aload0 dX3_power_5 ?_
      refine r_iconst (v := nI 3) dX3_power_6 (by decide) ?_
      refine r_callV (M' := mX3_at) _ dX3_power_7 q3485 q3487 qs56 rfl (lw_all_tbl q3488) q138 (by exact pl_X3_at) gc_X3 (by first | exact m.1 | exact m0.1 | exact m1.1 | exact m2.1 | exact m3.1 | assumption | exact g_us | (rw [g_un (by omega)]; assumption) | (rw [g_un (by omega)]; exact g_us) | (rw [g_un (by omega), g_un (by omega)]; assumption) | (rw [g_un (by omega), g_un (by omega)]; exact g_us) | (rw [g_un (by omega), g_un (by omega), g_un (by omega)]; assumption) | ((repeat (rw [g_un (by omega)])); first | exact m.1 | exact m0.1 | exact m1.1 | exact m2.1 | exact m3.1 | exact g_us | assumption)) ((k_at m (by decide) (by decide))) (by omega) (Nat.le_of_ble_eq_true rfl) (by omega) (by omega) rfl (Nat.le_of_ble_eq_true rfl) rfl (kI fun r7 h7 n7 e7 => ?_) kN
      obtain ⟨rfl, rfl, rfl⟩ := e7
      refine r_icmp_geN (tgt := 24) dX3_power_10 (by decide) (by omega) (by omega) (fun c10 => absurd c10 (by omega)) (fun c10 => ?_)
      refine r_iload1 dX3_power_13 ?_
      refine r_bipush (v := nI 10) dX3_power_14 (by decide) ?_
      refine r_imul dX3_power_16 (by first | exact pk_mul _ _ | rfl) ?_
      refine r_istore1 dX3_power_17 ?_
      refine r_iinc2 dX3_power_18 (ii1 _) ?_
      refine r_goto (tgt := 4) dX3_power_21 (by decide) ?_
      exact ih (k + 1) (by omega)
  refine r_iconst (v := nI 1) dX3_power_0 (by decide) ?_
  refine r_istore1 dX3_power_1 ?_
  refine r_iconst (v := nI 0) dX3_power_2 (by decide) ?_
  refine r_istore2 dX3_power_3 ?_
  exact loop (R 1 3) 0 (by omega)
theorem k_crumbs {k : Nat} (m : mS a V R A h) (w : wB u (R 1)) (hk : k < R 1 0) : g_Met K mX3_crumbs 3 0 0 [.ref a, .int (nI k)] h n (gI fun r h' n' => r = nI (crm (R 1) k) ∧ h' = h ∧ n' = n) gN := by
  have b := w.b
  have b1 := ab_b w hk
  have b2 := w.d hk
  have hr : rul (R 1 4) := b.2.2.2.2.2.1
  have b3 := Nat.mod_lt (R 1 (10 + 2 * k) * 10 ^ R 1 3) (show 0 < R 1 (11 + 2 * k) by omega)
  have b4 := Nat.div_le_self (R 1 (10 + 2 * k) * 10 ^ R 1 3) (R 1 (11 + 2 * k))
  refine g_Met.of (M := mX3_crumbs) (L := [some (.ref a), some (.int (nI k)), none, none, none, none]) (by decide +kernel) (Nat.le_of_ble_eq_true rfl) rfl ?_
  refine r_aload0 dX3_crumbs_0 ?_
  refine r_iload1 dX3_crumbs_1 ?_
  refine r_iconst (v := nI 0) dX3_crumbs_2 (by decide) ?_
  refine r_callV (M' := mX3_dough) _ dX3_crumbs_3 q3532 q3534 qs66 rfl (lw_all_tbl q3535) q138 (by exact pl_X3_dough) gc_X3 (by first | exact m.1 | exact m0.1 | exact m1.1 | exact m2.1 | exact m3.1 | assumption | exact g_us | (rw [g_un (by omega)]; assumption) | (rw [g_un (by omega)]; exact g_us) | (rw [g_un (by omega), g_un (by omega)]; assumption) | (rw [g_un (by omega), g_un (by omega)]; exact g_us) | (rw [g_un (by omega), g_un (by omega), g_un (by omega)]; assumption) | ((repeat (rw [g_un (by omega)])); first | exact m.1 | exact m0.1 | exact m1.1 | exact m2.1 | exact m3.1 | exact g_us | assumption)) ((k_dough m (by omega) (by decide))) (by omega) (Nat.le_of_ble_eq_true rfl) (by omega) (by omega) rfl (Nat.le_of_ble_eq_true rfl) rfl (kI fun r3 h3 n3 e3 => ?_) kN
  obtain ⟨rfl, rfl, rfl⟩ := e3
  rw [show 10 + 2 * k + 0 = 10 + 2 * k by omega]
  refine r_aload0 dX3_crumbs_6 ?_
  refine r_callV (M' := mX3_power) _ dX3_crumbs_7 q3635 q3637 qs85 rfl (lw_all_tbl q3638) q138 (by exact pl_X3_power) gc_X3 (by first | exact m.1 | exact m0.1 | exact m1.1 | exact m2.1 | exact m3.1 | assumption | exact g_us | (rw [g_un (by omega)]; assumption) | (rw [g_un (by omega)]; exact g_us) | (rw [g_un (by omega), g_un (by omega)]; assumption) | (rw [g_un (by omega), g_un (by omega)]; exact g_us) | (rw [g_un (by omega), g_un (by omega), g_un (by omega)]; assumption) | ((repeat (rw [g_un (by omega)])); first | exact m.1 | exact m0.1 | exact m1.1 | exact m2.1 | exact m3.1 | exact g_us | assumption)) ((k_power m w)) (by omega) (Nat.le_of_ble_eq_true rfl) (by omega) (by omega) rfl (Nat.le_of_ble_eq_true rfl) rfl (kI fun r7 h7 n7 e7 => ?_) kN
  obtain ⟨rfl, rfl, rfl⟩ := e7
  refine r_imul dX3_crumbs_10 (by first | exact pk_mul _ _ | rfl) ?_
  refine r_istore2 dX3_crumbs_11 ?_
  refine r_aload0 dX3_crumbs_12 ?_
  refine r_iload1 dX3_crumbs_13 ?_
  refine r_iconst (v := nI 1) dX3_crumbs_14 (by decide) ?_
  refine r_callV (M' := mX3_dough) _ dX3_crumbs_15 q3532 q3534 qs66 rfl (lw_all_tbl q3535) q138 (by exact pl_X3_dough) gc_X3 (by first | exact m.1 | exact m0.1 | exact m1.1 | exact m2.1 | exact m3.1 | assumption | exact g_us | (rw [g_un (by omega)]; assumption) | (rw [g_un (by omega)]; exact g_us) | (rw [g_un (by omega), g_un (by omega)]; assumption) | (rw [g_un (by omega), g_un (by omega)]; exact g_us) | (rw [g_un (by omega), g_un (by omega), g_un (by omega)]; assumption) | ((repeat (rw [g_un (by omega)])); first | exact m.1 | exact m0.1 | exact m1.1 | exact m2.1 | exact m3.1 | exact g_us | assumption)) ((k_dough m (by omega) (by decide))) (by omega) (Nat.le_of_ble_eq_true rfl) (by omega) (by omega) rfl (Nat.le_of_ble_eq_true rfl) rfl (kI fun r15 h15 n15 e15 => ?_) kN
  obtain ⟨rfl, rfl, rfl⟩ := e15
  rw [show 10 + 2 * k + 1 = 11 + 2 * k by omega]
  refine r_istore3 dX3_crumbs_18 ?_
  refine r_iload2 dX3_crumbs_19 ?_
  refine r_iload3 dX3_crumbs_20 ?_
  refine r_idiv dX3_crumbs_21 (nI_ne0 (by omega) (by omega)) (by first | exact pk_div (by omega) (by omega) (by omega) | rfl) ?_
  refine r_istore4 dX3_crumbs_22 ?_
  refine r_iload2 dX3_crumbs_24 ?_
  refine r_iload3 dX3_crumbs_25 ?_
  refine r_irem dX3_crumbs_26 (nI_ne0 (by omega) (by omega)) (by first | exact pk_rem (by omega) (by omega) (by omega) | rfl) ?_
  refine r_istore5 dX3_crumbs_27 ?_
  refine r_aload0 dX3_crumbs_29 ?_
  refine r_iconst (v := nI 4) dX3_crumbs_30 (by decide) ?_
  refine r_callV (M' := mX3_at) _ dX3_crumbs_31 q3485 q3487 qs56 rfl (lw_all_tbl q3488) q138 (by exact pl_X3_at) gc_X3 (by first | exact m.1 | exact m0.1 | exact m1.1 | exact m2.1 | exact m3.1 | assumption | exact g_us | (rw [g_un (by omega)]; assumption) | (rw [g_un (by omega)]; exact g_us) | (rw [g_un (by omega), g_un (by omega)]; assumption) | (rw [g_un (by omega), g_un (by omega)]; exact g_us) | (rw [g_un (by omega), g_un (by omega), g_un (by omega)]; assumption) | ((repeat (rw [g_un (by omega)])); first | exact m.1 | exact m0.1 | exact m1.1 | exact m2.1 | exact m3.1 | exact g_us | assumption)) ((k_at m (by decide) (by decide))) (by omega) (Nat.le_of_ble_eq_true rfl) (by omega) (by omega) rfl (Nat.le_of_ble_eq_true rfl) rfl (kI fun r31 h31 n31 e31 => ?_) kN
  obtain ⟨rfl, rfl, rfl⟩ := e31
  rcases hr with e34 | e34 | e34 | e34
  · rw [e34]
    refine r_lookup (off := 34) (tgt := 68) dX3_crumbs_34 (by decide) (by decide +kernel) (by decide) ?_
    refine r_iload4 dX3_crumbs_68 ?_
    exact r_ireturn dX3_crumbs_70 rfl rfl (⟨by unfold crm rnd; rw [e34]; rfl, rfl, rfl⟩)
  · rw [e34]
    refine r_lookup (off := 37) (tgt := 71) dX3_crumbs_34 (by decide) (by decide +kernel) (by decide) ?_
    refine r_iload5 dX3_crumbs_71 ?_
    refine r_if_leN (tgt := 83) dX3_crumbs_73 (by decide) (by omega) (fun c73 => ?_) (fun c73 => ?_)
    · refine r_iload4 dX3_crumbs_83 ?_
      exact r_ireturn dX3_crumbs_85 rfl rfl (⟨by unfold crm rnd; rw [e34, if_neg (by decide), if_pos rfl, if_neg (by omega)], rfl, rfl⟩)
    · refine r_iload4 dX3_crumbs_76 ?_
      refine r_iconst (v := nI 1) dX3_crumbs_78 (by decide) ?_
      refine r_iadd dX3_crumbs_79 (by first | exact nI_add _ _ | rfl) ?_
      refine r_goto (tgt := 85) dX3_crumbs_80 (by decide) ?_
      exact r_ireturn dX3_crumbs_85 rfl rfl (⟨by unfold crm rnd; rw [e34, if_neg (by decide), if_pos rfl, if_pos (by omega)], rfl, rfl⟩)
  · rw [e34]
    refine r_lookup (off := 52) (tgt := 86) dX3_crumbs_34 (by decide) (by decide +kernel) (by decide) ?_
    refine r_iconst (v := nI 2) dX3_crumbs_86 (by decide) ?_
    refine r_iload5 dX3_crumbs_87 ?_
    refine r_imul dX3_crumbs_89 (by first | exact pk_mul _ _ | rfl) ?_
    refine r_iload3 dX3_crumbs_90 ?_
    refine r_icmp_ltN (tgt := 101) dX3_crumbs_91 (by decide) (by omega) (by omega) (fun c91 => ?_) (fun c91 => ?_)
    · refine r_iload4 dX3_crumbs_101 ?_
      exact r_ireturn dX3_crumbs_103 rfl rfl (⟨by unfold crm rnd; rw [e34, if_neg (by decide), if_neg (by decide), if_pos rfl, if_neg (by omega)], rfl, rfl⟩)
    · refine r_iload4 dX3_crumbs_94 ?_
      refine r_iconst (v := nI 1) dX3_crumbs_96 (by decide) ?_
      refine r_iadd dX3_crumbs_97 (by first | exact nI_add _ _ | rfl) ?_
      refine r_goto (tgt := 103) dX3_crumbs_98 (by decide) ?_
      exact r_ireturn dX3_crumbs_103 rfl rfl (⟨by unfold crm rnd; rw [e34, if_neg (by decide), if_neg (by decide), if_pos rfl, if_pos (by omega)], rfl, rfl⟩)
  · rw [e34]
    refine r_lookup (off := 70) (tgt := 104) dX3_crumbs_34 (by decide) (by decide +kernel) (by decide) ?_
    refine r_iconst (v := nI 2) dX3_crumbs_104 (by decide) ?_
    refine r_iload5 dX3_crumbs_105 ?_
    refine r_imul dX3_crumbs_107 (by first | exact pk_mul _ _ | rfl) ?_
    refine r_iload3 dX3_crumbs_108 ?_
    refine r_icmp_gtN (tgt := 128) dX3_crumbs_109 (by decide) (by omega) (by omega) (fun c109 => ?_) (fun c109 => ?_)
    · refine r_iload4 dX3_crumbs_128 ?_
      refine r_iconst (v := nI 1) dX3_crumbs_130 (by decide) ?_
      refine r_iadd dX3_crumbs_131 (by first | exact nI_add _ _ | rfl) ?_
      refine r_goto (tgt := 137) dX3_crumbs_132 (by decide) ?_
      exact r_ireturn dX3_crumbs_137 rfl rfl (⟨by unfold crm rnd; rw [e34, if_neg (by decide), if_neg (by decide), if_neg (by decide), if_pos (by omega)], rfl, rfl⟩)
    · refine r_iconst (v := nI 2) dX3_crumbs_112 (by decide) ?_
      refine r_iload5 dX3_crumbs_113 ?_
      refine r_imul dX3_crumbs_115 (by first | exact pk_mul _ _ | rfl) ?_
      refine r_iload3 dX3_crumbs_116 ?_
      refine r_icmp_neN (tgt := 135) dX3_crumbs_117 (by decide) (by omega) (by omega) (fun c117 => ?_) (fun c117 => ?_)
      · refine r_iload4 dX3_crumbs_135 ?_
        exact r_ireturn dX3_crumbs_137 rfl rfl (⟨by unfold crm rnd; rw [e34, if_neg (by decide), if_neg (by decide), if_neg (by decide), if_neg (by omega)], rfl, rfl⟩)
      · refine r_iload4 dX3_crumbs_120 ?_
        refine r_iconst (v := nI 2) dX3_crumbs_122 (by decide) ?_
        refine r_irem dX3_crumbs_123 (nI_ne0 (by omega) (by omega)) (by first | exact pk_rem (by omega) (by omega) (by omega) | rfl) ?_
        refine r_iconst (v := nI 1) dX3_crumbs_124 (by decide) ?_
        refine r_icmp_neN (tgt := 135) dX3_crumbs_125 (by decide) (by omega) (by omega) (fun c125 => ?_) (fun c125 => ?_)
        · refine r_iload4 dX3_crumbs_135 ?_
          exact r_ireturn dX3_crumbs_137 rfl rfl (⟨by unfold crm rnd; rw [e34, if_neg (by decide), if_neg (by decide), if_neg (by decide), if_neg (by omega)], rfl, rfl⟩)
        · refine r_iload4 dX3_crumbs_128 ?_
          refine r_iconst (v := nI 1) dX3_crumbs_130 (by decide) ?_
          refine r_iadd dX3_crumbs_131 (by first | exact nI_add _ _ | rfl) ?_
          refine r_goto (tgt := 137) dX3_crumbs_132 (by decide) ?_
          exact r_ireturn dX3_crumbs_137 rfl rfl (⟨by unfold crm rnd; rw [e34, if_neg (by decide), if_neg (by decide), if_neg (by decide), if_pos (by omega)], rfl, rfl⟩)
theorem k_error {k : Nat} (m : mS a V R A h) (w : wB u (R 1)) (hk : k < R 1 0) : g_Met K mX3_error 4 0 0 [.ref a, .int (nI k)] h n (gJ fun r h' n' => r = erp (R 1) k ∧ h' = h ∧ n' = n) gN := by
  have b := w.b
  have b1 := crm_b w hk
  have b2 := w.d hk
  have b3 := p10_le (k := R 1 3) (by omega)
  refine g_Met.of (M := mX3_error) (L := [some (.ref a), some (.int (nI k)), none, none]) (by decide +kernel) (Nat.le_of_ble_eq_true rfl) rfl ?_
  refine r_aload0 dX3_error_0 ?_
  refine r_iload1 dX3_error_1 ?_
  refine r_iconst (v := nI 1) dX3_error_2 (by decide) ?_
  refine r_callV (M' := mX3_dough) _ dX3_error_3 q3532 q3534 qs66 rfl (lw_all_tbl q3535) q138 (by exact pl_X3_dough) gc_X3 (by first | exact m.1 | exact m0.1 | exact m1.1 | exact m2.1 | exact m3.1 | assumption | exact g_us | (rw [g_un (by omega)]; assumption) | (rw [g_un (by omega)]; exact g_us) | (rw [g_un (by omega), g_un (by omega)]; assumption) | (rw [g_un (by omega), g_un (by omega)]; exact g_us) | (rw [g_un (by omega), g_un (by omega), g_un (by omega)]; assumption) | ((repeat (rw [g_un (by omega)])); first | exact m.1 | exact m0.1 | exact m1.1 | exact m2.1 | exact m3.1 | exact g_us | assumption)) ((k_dough m (by omega) (by decide))) (by omega) (Nat.le_of_ble_eq_true rfl) (by omega) (by omega) rfl (Nat.le_of_ble_eq_true rfl) rfl (kI fun r3 h3 n3 e3 => ?_) kN
  obtain ⟨rfl, rfl, rfl⟩ := e3
  rw [show 10 + 2 * k + 1 = 11 + 2 * k by omega]
  refine r_i2l dX3_error_6 (i2l_nI (by omega)) ?_
  refine r_lstore2 dX3_error_7 ?_
  refine r_aload0 dX3_error_8 ?_
  refine r_iload1 dX3_error_9 ?_
  refine r_iconst (v := nI 0) dX3_error_10 (by decide) ?_
  refine r_callV (M' := mX3_dough) _ dX3_error_11 q3532 q3534 qs66 rfl (lw_all_tbl q3535) q138 (by exact pl_X3_dough) gc_X3 (by first | exact m.1 | exact m0.1 | exact m1.1 | exact m2.1 | exact m3.1 | assumption | exact g_us | (rw [g_un (by omega)]; assumption) | (rw [g_un (by omega)]; exact g_us) | (rw [g_un (by omega), g_un (by omega)]; assumption) | (rw [g_un (by omega), g_un (by omega)]; exact g_us) | (rw [g_un (by omega), g_un (by omega), g_un (by omega)]; assumption) | ((repeat (rw [g_un (by omega)])); first | exact m.1 | exact m0.1 | exact m1.1 | exact m2.1 | exact m3.1 | exact g_us | assumption)) ((k_dough m (by omega) (by decide))) (by omega) (Nat.le_of_ble_eq_true rfl) (by omega) (by omega) rfl (Nat.le_of_ble_eq_true rfl) rfl (kI fun r11 h11 n11 e11 => ?_) kN
  obtain ⟨rfl, rfl, rfl⟩ := e11
  rw [show 10 + 2 * k + 0 = 10 + 2 * k by omega]
  refine r_i2l dX3_error_14 (i2l_nI (by omega)) ?_
  refine r_aload0 dX3_error_15 ?_
  refine r_callV (M' := mX3_power) _ dX3_error_16 q3635 q3637 qs85 rfl (lw_all_tbl q3638) q138 (by exact pl_X3_power) gc_X3 (by first | exact m.1 | exact m0.1 | exact m1.1 | exact m2.1 | exact m3.1 | assumption | exact g_us | (rw [g_un (by omega)]; assumption) | (rw [g_un (by omega)]; exact g_us) | (rw [g_un (by omega), g_un (by omega)]; assumption) | (rw [g_un (by omega), g_un (by omega)]; exact g_us) | (rw [g_un (by omega), g_un (by omega), g_un (by omega)]; assumption) | ((repeat (rw [g_un (by omega)])); first | exact m.1 | exact m0.1 | exact m1.1 | exact m2.1 | exact m3.1 | exact g_us | assumption)) ((k_power m w)) (by omega) (Nat.le_of_ble_eq_true rfl) (by omega) (by omega) rfl (Nat.le_of_ble_eq_true rfl) rfl (kI fun r16 h16 n16 e16 => ?_) kN
  obtain ⟨rfl, rfl, rfl⟩ := e16
  refine r_i2l dX3_error_19 (i2l_nI (by omega)) ?_
  refine r_lmul dX3_error_20 rfl ?_
  refine r_aload0 dX3_error_21 ?_
  refine r_iload1 dX3_error_22 ?_
  refine r_callV (M' := mX3_crumbs) _ dX3_error_23 q3631 q3633 qs84 rfl (lw_all_tbl q3634) q138 (by exact pl_X3_crumbs) gc_X3 (by first | exact m.1 | exact m0.1 | exact m1.1 | exact m2.1 | exact m3.1 | assumption | exact g_us | (rw [g_un (by omega)]; assumption) | (rw [g_un (by omega)]; exact g_us) | (rw [g_un (by omega), g_un (by omega)]; assumption) | (rw [g_un (by omega), g_un (by omega)]; exact g_us) | (rw [g_un (by omega), g_un (by omega), g_un (by omega)]; assumption) | ((repeat (rw [g_un (by omega)])); first | exact m.1 | exact m0.1 | exact m1.1 | exact m2.1 | exact m3.1 | exact g_us | assumption)) ((k_crumbs m w hk)) (by omega) (Nat.le_of_ble_eq_true rfl) (by omega) (by omega) rfl (Nat.le_of_ble_eq_true rfl) rfl (kI fun r23 h23 n23 e23 => ?_) kN
  obtain ⟨rfl, rfl, rfl⟩ := e23
  refine r_i2l dX3_error_26 (i2l_nI (by omega)) ?_
  refine r_lload2 dX3_error_27 ?_
  refine r_lmul dX3_error_28 rfl ?_
  refine r_lsub dX3_error_29 rfl ?_
  refine r_ldc2 dX3_error_30 q3643 ?_
  refine r_lload2 dX3_error_33 ?_
  refine r_ldiv dX3_error_34 (by rw [show (0 : Int64) = lN 0 from rfl, lN_eq (by omega) (by decide)]; omega) (show _ = lN (27720 / R 1 (11 + 2 * k)) by rw [show (27720 : Int64) = lN 27720 from rfl]; exact pk_lDiv (by decide) (by omega) (by omega)) ?_
  refine r_lmul dX3_error_35 rfl ?_
  exact r_lreturn dX3_error_36 rfl (⟨rfl, rfl, rfl⟩)
end
