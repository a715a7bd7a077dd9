/-! the reference's means -/
set_option maxRecDepth 100000
section
variable {K : g_K} {a n u : Nat} {V : Nat → Nat → Int32} {R : Nat → Nat → Nat} {A : Nat → Nat → Int64} {h : g_P}
/-- what is left of a question with another answer -/
def mQF (a : Nat) (V : Nat → Nat → Int32) (R : Nat → Nat → Nat) (A : Nat → Nat → Int64) (e : Nat) (Q : Prop) (h' : g_P) : Prop := ∃ V', mS a V' R A h' ∧ V' 0 0 = nI e ∧ vE V V' ∧ (e = 0 → Q)
theorem mQF.no {e : Nat} {Q : Prop} (he : e ≠ 0) (m : mS a (up1 (vZ V) 0 (fup (vZ V 0) 0 (nI e))) R A h) : mQF a V R A e Q h := by
  obtain ⟨V', m1, m2, m3⟩ := m.fz
  exact ⟨V', m1, m2, m3, fun z => absurd z he⟩
theorem mQF.z {e : Nat} {Q : Prop} (he : e = 0) (q : Q) (m : mS a (vZ V) R A h) : mQF a V R A e Q h := ⟨_, m, by rw [vZ_0, he], vE.z, fun _ => q⟩
theorem k_meanCrumbs (hb : k_b K ≤ a) (m : mS a V R A h) (w : wB u (R 1)) : g_Met K mX3_meanCrumbs 4 0 0 [.ref a] h n (gD fun r h' n' => mQF a V R A (if R 1 2 = 0 then 1 else 0) (r = FP.ddiv (FP.i2d (nI (ilv (R 1)))) (FP.i2d (nI (R 1 2)))) h' ∧ mT a h h' ∧ n' = n) gN := by
  have b := w.b
  refine g_Met.of (M := mX3_meanCrumbs) (L := [some (.ref a)]) (by decide +kernel) (Nat.le_of_ble_eq_true rfl) rfl ?_
  refine r_aload0 dX3_meanCrumbs_0 ?_
  refine r_iconst (v := nI 0) dX3_meanCrumbs_1 (by decide) ?_
  refine p_X3_1_X3 dX3_meanCrumbs_2 (by omega) (by first | exact m.1 | exact m0.1 | exact m1.1 | exact m2.1 | exact m3.1 | assumption | exact g_us | (rw [g_un (by omega)]; assumption) | (rw [g_un (by omega)]; exact g_us) | (rw [g_un (by omega), g_un (by omega)]; assumption) | (rw [g_un (by omega), g_un (by omega)]; exact g_us) | (rw [g_un (by omega), g_un (by omega), g_un (by omega)]; assumption) | ((repeat (rw [g_un (by omega)])); first | exact m.1 | exact m0.1 | exact m1.1 | exact m2.1 | exact m3.1 | exact g_us | assumption)) ?_
  refine m.goZ (fun h0 m0 t0 => ?_)
  refine r_aload0 dX3_meanCrumbs_5 ?_
  refine r_iconst (v := nI 2) dX3_meanCrumbs_6 (by decide) ?_
  refine r_callV (M' := mX3_at) _ dX3_meanCrumbs_7 q3485 q3487 qs56 rfl (lw_all_tbl q3488) q138 (by exact pl_X3_at) gc_X3 (by first | exact m.1 | exact m0.1 | exact m1.1 | exact m2.1 | exact m3.1 | assumption | exact g_us | (rw [g_un (by omega)]; assumption) | (rw [g_un (by omega)]; exact g_us) | (rw [g_un (by omega), g_un (by omega)]; assumption) | (rw [g_un (by omega), g_un (by omega)]; exact g_us) | (rw [g_un (by omega), g_un (by omega), g_un (by omega)]; assumption) | ((repeat (rw [g_un (by omega)])); first | exact m.1 | exact m0.1 | exact m1.1 | exact m2.1 | exact m3.1 | exact g_us | assumption)) ((k_at m0 (by decide) (by decide))) (by omega) (Nat.le_of_ble_eq_true rfl) (by omega) (by omega) rfl (Nat.le_of_ble_eq_true rfl) rfl (kI fun r7 h7 n7 e7 => ?_) kN
  obtain ⟨rfl, rfl, rfl⟩ := e7
  refine r_if_neN (tgt := 22) dX3_meanCrumbs_10 (by decide) (by omega) (fun c10 => ?_) (fun c10 => ?_)
  · refine r_aload0 dX3_meanCrumbs_22 ?_
    refine r_callV (M' := mX3_inLoaves) _ dX3_meanCrumbs_23 q3600 q3602 qs79 rfl (lw_all_tbl q3603) q138 (by exact pl_X3_inLoaves) gc_X3 (by first | exact m.1 | exact m0.1 | exact m1.1 | exact m2.1 | exact m3.1 | assumption | exact g_us | (rw [g_un (by omega)]; assumption) | (rw [g_un (by omega)]; exact g_us) | (rw [g_un (by omega), g_un (by omega)]; assumption) | (rw [g_un (by omega), g_un (by omega)]; exact g_us) | (rw [g_un (by omega), g_un (by omega), g_un (by omega)]; assumption) | ((repeat (rw [g_un (by omega)])); first | exact m.1 | exact m0.1 | exact m1.1 | exact m2.1 | exact m3.1 | exact g_us | assumption)) ((k_inLoaves m0 w)) (by omega) (Nat.le_of_ble_eq_true rfl) (by omega) (by omega) rfl (Nat.le_of_ble_eq_true rfl) rfl (kI fun r23 h23 n23 e23 => ?_) kN
    obtain ⟨rfl, rfl, rfl⟩ := e23
    refine r_i2d dX3_meanCrumbs_26 rfl ?_
    refine r_aload0 dX3_meanCrumbs_27 ?_
    refine r_iconst (v := nI 2) dX3_meanCrumbs_28 (by decide) ?_
    refine r_callV (M' := mX3_at) _ dX3_meanCrumbs_29 q3485 q3487 qs56 rfl (lw_all_tbl q3488) q138 (by exact pl_X3_at) gc_X3 (by first | exact m.1 | exact m0.1 | exact m1.1 | exact m2.1 | exact m3.1 | assumption | exact g_us | (rw [g_un (by omega)]; assumption) | (rw [g_un (by omega)]; exact g_us) | (rw [g_un (by omega), g_un (by omega)]; assumption) | (rw [g_un (by omega), g_un (by omega)]; exact g_us) | (rw [g_un (by omega), g_un (by omega), g_un (by omega)]; assumption) | ((repeat (rw [g_un (by omega)])); first | exact m.1 | exact m0.1 | exact m1.1 | exact m2.1 | exact m3.1 | exact g_us | assumption)) ((k_at m0 (by decide) (by decide))) (by omega) (Nat.le_of_ble_eq_true rfl) (by omega) (by omega) rfl (Nat.le_of_ble_eq_true rfl) rfl (kI fun r29 h29 n29 e29 => ?_) kN
    obtain ⟨rfl, rfl, rfl⟩ := e29
    refine r_i2d dX3_meanCrumbs_32 rfl ?_
    refine r_ddiv dX3_meanCrumbs_33 (vf_ddiv _ (nI_ne0 (by omega) (by omega))) rfl ?_
    exact r_dreturn dX3_meanCrumbs_34 rfl (⟨by rw [if_neg c10]; exact mQF.z rfl rfl m0, t0, rfl⟩)
  · refine r_aload0 dX3_meanCrumbs_13 ?_
    refine r_iconst (v := nI 1) dX3_meanCrumbs_14 (by decide) ?_
    refine r_callV (M' := mX3_fails) _ dX3_meanCrumbs_15 q3489 q3491 qs57 rfl (lw_all_tbl q3492) q138 (by exact pl_X3_fails) gc_X3 (by first | exact m.1 | exact m0.1 | exact m1.1 | exact m2.1 | exact m3.1 | assumption | exact g_us | (rw [g_un (by omega)]; assumption) | (rw [g_un (by omega)]; exact g_us) | (rw [g_un (by omega), g_un (by omega)]; assumption) | (rw [g_un (by omega), g_un (by omega)]; exact g_us) | (rw [g_un (by omega), g_un (by omega), g_un (by omega)]; assumption) | ((repeat (rw [g_un (by omega)])); first | exact m.1 | exact m0.1 | exact m1.1 | exact m2.1 | exact m3.1 | exact g_us | assumption)) ((k_fails hb m0)) (by omega) (Nat.le_of_ble_eq_true rfl) (by omega) (by omega) rfl (Nat.le_of_ble_eq_true rfl) rfl (kI fun r15 h15 n15 e15 => ?_) kN
    obtain ⟨rfl, m1, t1, rfl⟩ := e15
    refine r_i2d dX3_meanCrumbs_18 rfl ?_
    refine r_goto (tgt := 34) dX3_meanCrumbs_19 (by decide) ?_
    exact r_dreturn dX3_meanCrumbs_34 rfl (⟨by rw [if_pos c10]; exact mQF.no (by decide) m1, t0.tr t1, rfl⟩)
theorem k_fullShare (hb : k_b K ≤ a) (m : mS a V R A h) (w : wB u (R 1)) : g_Met K mX3_fullShare 4 0 0 [.ref a] h n (gF fun r h' n' => mQF a V R A (if cap (R 1) = 0 then 1 else 0) (r = FP.fdiv (FP.i2f (nI (cts (R 1)))) (FP.i2f (nI (cap (R 1))))) h' ∧ mT a h h' ∧ n' = n) gN := by
  have b := w.b
  have bc : cap (R 1) ≤ 49995 := cap_b w (Nat.le_refl _)
  refine g_Met.of (M := mX3_fullShare) (L := [some (.ref a), none, none]) (by decide +kernel) (Nat.le_of_ble_eq_true rfl) rfl ?_
  have loop : ∀ (g k : Nat) (h1 : g_P), k + g = R 1 1 → mS a (vZ V) R A h1 → mT a h h1 → g_G K mX3_fullShare 4 0 0 (gF fun r h' n' => mQF a V R A (if cap (R 1) = 0 then 1 else 0) (r = FP.fdiv (FP.i2f (nI (cts (R 1)))) (FP.i2f (nI (cap (R 1))))) h' ∧ mT a h h' ∧ n' = n) gN 9 [some (.ref a), some (.int (nI (sm (fun k => R 1 (22 + 2 * k)) k))), some (.int (nI k))] [] h1 n := by
    intro g
    induction g with
    | zero =>
      intro k h1 hk m1 t1
      have hk : k = R 1 1 := by omega
      subst hk
      have bc : sm (fun k => R 1 (22 + 2 * k)) (R 1 1) ≤ 49995 := bc
      refine r_iload2 dX3_fullShare_9 ?_
      refine r_aload0 dX3_fullShare_10 ?_
      refine r_iconst (v := nI 1) dX3_fullShare_11 (by decide) ?_
      refine r_callV (M' := mX3_at) _ dX3_fullShare_12 q3485 q3487 qs56 rfl (lw_all_tbl q3488) q138 (by exact pl_X3_at) gc_X3 (by first | exact m.1 | exact m0.1 | exact m1.1 | exact m2.1 | exact m3.1 | assumption | exact g_us | (rw [g_un (by omega)]; assumption) | (rw [g_un (by omega)]; exact g_us) | (rw [g_un (by omega), g_un (by omega)]; assumption) | (rw [g_un (by omega), g_un (by omega)]; exact g_us) | (rw [g_un (by omega), g_un (by omega), g_un (by omega)]; assumption) | ((repeat (rw [g_un (by omega)])); first | exact m.1 | exact m0.1 | exact m1.1 | exact m2.1 | exact m3.1 | exact g_us | assumption)) ((k_at m1 (by decide) (by decide))) (by omega) (Nat.le_of_ble_eq_true rfl) (by omega) (by omega) rfl (Nat.le_of_ble_eq_true rfl) rfl (kI fun r12 h12 n12 e12 => ?_) kN
      obtain ⟨rfl, rfl, rfl⟩ := e12
      refine r_icmp_geN (tgt := 33) dX3_fullShare_15 (by decide) (by omega) (by omega) (fun c15 => ?_) (fun c15 => absurd c15 (by omega))
      refine r_iload1 dX3_fullShare_33 ?_
      refine r_if_neN (tgt := 46) dX3_fullShare_34 (by decide) (by omega) (fun c34 => ?_) (fun c34 => ?_)
      · refine r_aload0 dX3_fullShare_46 ?_
        refine r_callV (M' := mX3_contents) _ dX3_fullShare_47 q3592 q3594 qs77 rfl (lw_all_tbl q3595) q138 (by exact pl_X3_contents) gc_X3 (by first | exact m.1 | exact m0.1 | exact m1.1 | exact m2.1 | exact m3.1 | assumption | exact g_us | (rw [g_un (by omega)]; assumption) | (rw [g_un (by omega)]; exact g_us) | (rw [g_un (by omega), g_un (by omega)]; assumption) | (rw [g_un (by omega), g_un (by omega)]; exact g_us) | (rw [g_un (by omega), g_un (by omega), g_un (by omega)]; assumption) | ((repeat (rw [g_un (by omega)])); first | exact m.1 | exact m0.1 | exact m1.1 | exact m2.1 | exact m3.1 | exact g_us | assumption)) ((k_contents m1 w)) (by omega) (Nat.le_of_ble_eq_true rfl) (by omega) (by omega) rfl (Nat.le_of_ble_eq_true rfl) rfl (kI fun r47 h47 n47 e47 => ?_) kN
        obtain ⟨rfl, rfl, rfl⟩ := e47
        refine r_i2f dX3_fullShare_50 rfl ?_
        refine r_iload1 dX3_fullShare_51 ?_
        refine r_i2f dX3_fullShare_52 rfl ?_
        refine r_fdiv dX3_fullShare_53 (vf_fdiv _ (nI_ne0 (by omega) (by omega))) rfl ?_
        exact r_freturn dX3_fullShare_54 rfl (⟨by rw [if_neg (show ¬ cap (R 1) = 0 from c34)]; exact mQF.z rfl rfl m1, t1, rfl⟩)
      · refine r_aload0 dX3_fullShare_37 ?_
        refine r_iconst (v := nI 1) dX3_fullShare_38 (by decide) ?_
        refine r_callV (M' := mX3_fails) _ dX3_fullShare_39 q3489 q3491 qs57 rfl (lw_all_tbl q3492) q138 (by exact pl_X3_fails) gc_X3 (by first | exact m.1 | exact m0.1 | exact m1.1 | exact m2.1 | exact m3.1 | assumption | exact g_us | (rw [g_un (by omega)]; assumption) | (rw [g_un (by omega)]; exact g_us) | (rw [g_un (by omega), g_un (by omega)]; assumption) | (rw [g_un (by omega), g_un (by omega)]; exact g_us) | (rw [g_un (by omega), g_un (by omega), g_un (by omega)]; assumption) | ((repeat (rw [g_un (by omega)])); first | exact m.1 | exact m0.1 | exact m1.1 | exact m2.1 | exact m3.1 | exact g_us | assumption)) ((k_fails hb m1)) (by omega) (Nat.le_of_ble_eq_true rfl) (by omega) (by omega) rfl (Nat.le_of_ble_eq_true rfl) rfl (kI fun r39 h39 n39 e39 => ?_) kN
        obtain ⟨rfl, m2, t2, rfl⟩ := e39
        refine r_i2f dX3_fullShare_42 rfl ?_
        refine r_goto (tgt := 54) dX3_fullShare_43 (by decide) ?_
        exact r_freturn dX3_fullShare_54 rfl (⟨by rw [show cap (R 1) = 0 from c34, if_pos rfl]; exact mQF.no (by decide) m2, t1.tr t2, rfl⟩)
    | succ g ih =>
      intro k h1 hk m1 t1
      refine r_iload2 dX3_fullShare_9 ?_
      refine r_aload0 dX3_fullShare_10 ?_
      refine r_iconst (v := nI 1) dX3_fullShare_11 (by decide) ?_
      refine r_callV (M' := mX3_at) _ dX3_fullShare_12 q3485 q3487 qs56 rfl (lw_all_tbl q3488) q138 (by exact pl_X3_at) gc_X3 (by first | exact m.1 | exact m0.1 | exact m1.1 | exact m2.1 | exact m3.1 | assumption | exact g_us | (rw [g_un (by omega)]; assumption) | (rw [g_un (by omega)]; exact g_us) | (rw [g_un (by omega), g_un (by omega)]; assumption) | (rw [g_un (by omega), g_un (by omega)]; exact g_us) | (rw [g_un (by omega), g_un (by omega), g_un (by omega)]; assumption) | ((repeat (rw [g_un (by omega)])); first | exact m.1 | exact m0.1 | exact m1.1 | exact m2.1 | exact m3.1 | exact g_us | assumption)) ((k_at m1 (by decide) (by decide))) (by omega) (Nat.le_of_ble_eq_true rfl) (by omega) (by omega) rfl (Nat.le_of_ble_eq_true rfl) rfl (kI fun r12 h12 n12 e12 => ?_) kN
      obtain ⟨rfl, rfl, rfl⟩ := e12
      refine r_icmp_geN (tgt := 33) dX3_fullShare_15 (by decide) (by omega) (by omega) (fun c15 => absurd c15 (by omega)) (fun c15 => ?_)
      refine r_iload1 dX3_fullShare_18 ?_
      refine r_aload0 dX3_fullShare_19 ?_
      refine r_iload2 dX3_fullShare_20 ?_
      refine r_iconst (v := nI 0) dX3_fullShare_21 (by decide) ?_
      refine r_callV (M' := mX3_bowl) _ dX3_fullShare_22 q3596 q3598 qs78 rfl (lw_all_tbl q3599) q138 (by exact pl_X3_bowl) gc_X3 (by first | exact m.1 | exact m0.1 | exact m1.1 | exact m2.1 | exact m3.1 | assumption | exact g_us | (rw [g_un (by omega)]; assumption) | (rw [g_un (by omega)]; exact g_us) | (rw [g_un (by omega), g_un (by omega)]; assumption) | (rw [g_un (by omega), g_un (by omega)]; exact g_us) | (rw [g_un (by omega), g_un (by omega), g_un (by omega)]; assumption) | ((repeat (rw [g_un (by omega)])); first | exact m.1 | exact m0.1 | exact m1.1 | exact m2.1 | exact m3.1 | exact g_us | assumption)) ((k_bowl m1 (by omega) (by decide))) (by omega) (Nat.le_of_ble_eq_true rfl) (by omega) (by omega) rfl (Nat.le_of_ble_eq_true rfl) rfl (kI fun r22 h22 n22 e22 => ?_) kN
      obtain ⟨rfl, rfl, rfl⟩ := e22
      rw [show 22 + 2 * k + 0 = 22 + 2 * k from rfl]
      refine r_iadd dX3_fullShare_25 (by first | exact nI_add _ _ | rfl) ?_
      refine r_istore1 dX3_fullShare_26 ?_
      refine r_iinc2 dX3_fullShare_27 (ii1 _) ?_
      refine r_goto (tgt := 9) dX3_fullShare_30 (by decide) ?_
      exact ih (k + 1) _ (by omega) m1 t1
  refine r_aload0 dX3_fullShare_0 ?_
  refine r_iconst (v := nI 0) dX3_fullShare_1 (by decide) ?_
  refine p_X3_1_X3 dX3_fullShare_2 (by omega) (by first | exact m.1 | exact m0.1 | exact m1.1 | exact m2.1 | exact m3.1 | assumption | exact g_us | (rw [g_un (by omega)]; assumption) | (rw [g_un (by omega)]; exact g_us) | (rw [g_un (by omega), g_un (by omega)]; assumption) | (rw [g_un (by omega), g_un (by omega)]; exact g_us) | (rw [g_un (by omega), g_un (by omega), g_un (by omega)]; assumption) | ((repeat (rw [g_un (by omega)])); first | exact m.1 | exact m0.1 | exact m1.1 | exact m2.1 | exact m3.1 | exact g_us | assumption)) ?_
  refine m.goZ (fun h0 m0 t0 => ?_)
  refine r_iconst (v := nI 0) dX3_fullShare_5 (by decide) ?_
  refine r_istore1 dX3_fullShare_6 ?_
  refine r_iconst (v := nI 0) dX3_fullShare_7 (by decide) ?_
  refine r_istore2 dX3_fullShare_8 ?_
  exact loop (R 1 1) 0 _ (by omega) m0 t0
end
