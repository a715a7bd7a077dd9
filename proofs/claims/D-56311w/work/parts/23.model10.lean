/-! the reference: ovens, totals -/
set_option maxRecDepth 100000
section
variable {K : g_K} {a n u : Nat} {V : Nat → Nat → Int32} {R : Nat → Nat → Nat} {A : Nat → Nat → Int64} {h : g_P}
/-- the ovens' times -/
def vT (V : Nat → Nat → Int32) (T : Nat → Nat) : Nat → Nat → Int32 := up1 V 5 (fun j => nI (T j))
theorem vT_5 {T : Nat → Nat} : vT V T 5 = fun j => nI (T j) := up1_s
theorem vT_0 {T : Nat → Nat} : vT V T 0 = V 0 := up1_n (by decide)
theorem vT_vT {T T' : Nat → Nat} : vT (vT V T) T' = vT V T' := up1_up1
theorem vT_E {T : Nat → Nat} : vE V (vT V T) := vE.row (Or.inl rfl)
theorem vT_up {T : Nat → Nat} {j x : Nat} : up1 (vT V T) 5 (fup (fun j => nI (T j)) j (nI x)) = vT V (fup T j x) := by
  unfold vT
  rw [up1_up1]
  congr 1
  funext q
  by_cases h : q = j
  · subst h; rw [fup_s, fup_s]
  · rw [fup_n h, fup_n h]
theorem mS.tt {T : Nat → Nat} (m : mS a (vT V T) R A h) : h (a + 5) = some (g_ar 0 (aI 3 (fun j => nI (T j)))) := by
  have := m.2.2.2.2.2.1
  rw [vT_5] at this
  exact this
theorem mS.t {T : Nat → Nat} {j x : Nat} {c : g_C} (m : mS a (vT V T) R A h) (e : c = g_ar 0 ((aI 3 (fun j => nI (T j))).set j (.int (nI x)))) : mS a (vT V (fup T j x)) R A (g_up h (a + 5) c) := by
  have := mR.t (c := c) (f := fup (fun j => nI (T j)) j (nI x)) m (by rw [e, aI_set])
  rw [vT_up] at this
  exact this
theorem k_starts (hb : k_b K ≤ a) (m : mS a V R A h) : g_Met K mX3_starts 1 0 0 [.ref a] h n (gV fun h' n' => mS a (vT V fun _ => 0) R A h' ∧ mT a h h' ∧ n' = n) gN := by
  refine g_Met.of (M := mX3_starts) (L := [some (.ref a), none]) (by decide +kernel) (Nat.le_of_ble_eq_true rfl) rfl ?_
  have loop : ∀ (j k : Nat) (h1 : g_P), k + j = 3 → mS a (up1 V 5 (mxf (fun _ => nI 0) (V 5) k)) R A h1 → mT a h h1 → g_G K mX3_starts 1 0 0 (gV fun h' n' => mS a (vT V fun _ => 0) R A h' ∧ mT a h h' ∧ n' = n) gN 2 [some (.ref a), some (.int (nI k))] [] h1 n := by
    intro j
    induction j with
    | zero =>
      intro k h1 hk m1 t1
      have hk : k = 3 := by omega
      subst hk
      refine r_iload1 dX3_starts_2 ?_
      refine r_iconst (v := nI 3) dX3_starts_3 (by decide) ?_
      refine r_icmp_geN (tgt := 20) dX3_starts_4 (by decide) (by omega) (by omega) (fun c4 => ?_) (fun c4 => absurd c4 (by omega))
      exact r_return dX3_starts_20 rfl (⟨by
                obtain ⟨x0, x1, x2, x3, x4, x5, x6⟩ := m1
                rw [up1_s] at x5
                rw [aI_ext (g := fun _ => nI 0) (fun j hj => by unfold mxf; rw [if_pos hj])] at x5
                exact ⟨x0, x1, x2, x3, x4, by rw [vT_5]; exact x5, x6⟩, t1, rfl⟩)
    | succ j ih =>
      intro k h1 hk m1 t1
      refine r_iload1 dX3_starts_2 ?_
      refine r_iconst (v := nI 3) dX3_starts_3 (by decide) ?_
      refine r_icmp_geN (tgt := 20) dX3_starts_4 (by decide) (by omega) (by omega) (fun c4 => absurd c4 (by omega)) (fun c4 => ?_)
      refine r_aload0 dX3_starts_7 ?_
      refine f_X3_26_X3 dX3_starts_8 (by first | exact m.1 | exact m0.1 | exact m1.1 | exact m2.1 | exact m3.1 | assumption | exact g_us | (rw [g_un (by omega)]; assumption) | (rw [g_un (by omega)]; exact g_us) | (rw [g_un (by omega), g_un (by omega)]; assumption) | (rw [g_un (by omega), g_un (by omega)]; exact g_us) | (rw [g_un (by omega), g_un (by omega), g_un (by omega)]; assumption) | ((repeat (rw [g_un (by omega)])); first | exact m.1 | exact m0.1 | exact m1.1 | exact m2.1 | exact m3.1 | exact g_us | assumption)) ?_
      refine r_iload1 dX3_starts_11 ?_
      refine r_iconst (v := nI 0) dX3_starts_12 (by decide) ?_
      refine r_iastore (k) dX3_starts_13 (by omega) (by have := m1.2.2.2.2.2.1; rw [up1_s] at this; exact this) rfl (by omega) (by rw [aI_len]; omega) ?_
      refine r_iinc1 dX3_starts_14 (ii1 _) ?_
      refine r_goto (tgt := 2) dX3_starts_17 (by decide) ?_
      exact ih (k + 1) _ (by omega) ((mR.t (f := mxf (fun _ => nI 0) (V 5) (k + 1)) m1 (by rw [aI_set, ← mxf_s])).to up1_up1 rfl) (t1.tr (mT.up (by omega)))
  refine r_iconst (v := nI 0) dX3_starts_0 (by decide) ?_
  refine r_istore1 dX3_starts_1 ?_
  exact loop 3 0 _ (by omega) (m.to (by rw [mxf_0, up1_self]) rfl rfl) mT.rf
/-- the longest time of the first k + 1 ovens -/
def mx3 (T : Nat → Nat) : Nat → Nat
  | 0 => T 0
  | k + 1 => if mx3 T k < T (k + 1) then T (k + 1) else mx3 T k
theorem mx3_2 {T : Nat → Nat} : mx3 T 2 = lg3 T := by
  show (if (if T 0 < T 1 then T 1 else T 0) < T 2 then T 2 else (if T 0 < T 1 then T 1 else T 0)) = max (max (T 0) (T 1)) (T 2)
  (repeat' split) <;> omega
theorem mx3_b {T : Nat → Nat} {b : Nat} (h : ∀ j, T j < b) : ∀ k, mx3 T k < b := by
  intro k
  induction k with
  | zero => exact h 0
  | succ k ih => unfold mx3; split; exact h _; exact ih
theorem k_longest {T : Nat → Nat} (m : mS a (vT V T) R A h) (hT : ∀ j, T j < 2147483648) : g_Met K mX3_longest 1 0 0 [.ref a] h n (gI fun r h' n' => r = nI (lg3 T) ∧ h' = h ∧ n' = n) gN := by
  refine g_Met.of (M := mX3_longest) (L := [some (.ref a), none, none]) (by decide +kernel) (Nat.le_of_ble_eq_true rfl) rfl ?_
  have loop : ∀ (j k : Nat), k + j = 2 → g_G K mX3_longest 1 0 0 (gI fun r h' n' => r = nI (lg3 T) ∧ h' = h ∧ n' = n) gN 9 [some (.ref a), some (.int (nI (mx3 T k))), some (.int (nI (k + 1)))] [] h n := by
    intro j
    induction j with
    | zero =>
      intro k hk
      have hk : k = 2 := by omega
      subst hk
      refine r_iload2 dX3_longest_9 ?_
      refine r_iconst (v := nI 3) dX3_longest_10 (by decide) ?_
      refine r_icmp_geN (tgt := 41) dX3_longest_11 (by decide) (by omega) (by omega) (fun c11 => ?_) (fun c11 => absurd c11 (by omega))
      refine r_iload1 dX3_longest_41 ?_
      exact r_ireturn dX3_longest_42 rfl rfl (⟨by rw [mx3_2], rfl, rfl⟩)
    | succ j ih =>
      intro k hk
      have b1 := hT (k + 1)
      have b2 := mx3_b hT k
      refine r_iload2 dX3_longest_9 ?_
      refine r_iconst (v := nI 3) dX3_longest_10 (by decide) ?_
      refine r_icmp_geN (tgt := 41) dX3_longest_11 (by decide) (by omega) (by omega) (fun c11 => absurd c11 (by omega)) (fun c11 => ?_)
      refine r_aload0 dX3_longest_14 ?_
      refine f_X3_26_X3 dX3_longest_15 (by first | exact m.1 | exact m0.1 | exact m1.1 | exact m2.1 | exact m3.1 | assumption | exact g_us | (rw [g_un (by omega)]; assumption) | (rw [g_un (by omega)]; exact g_us) | (rw [g_un (by omega), g_un (by omega)]; assumption) | (rw [g_un (by omega), g_un (by omega)]; exact g_us) | (rw [g_un (by omega), g_un (by omega), g_un (by omega)]; assumption) | ((repeat (rw [g_un (by omega)])); first | exact m.1 | exact m0.1 | exact m1.1 | exact m2.1 | exact m3.1 | exact g_us | assumption)) ?_
      refine r_iload2 dX3_longest_18 ?_
      refine r_iaload ((k + 1)) dX3_longest_19 m.tt rfl (by omega) (aI_at (by omega)) ?_
      refine r_iload1 dX3_longest_20 ?_
      refine r_icmp_leN (tgt := 33) dX3_longest_21 (by decide) (by omega) (by omega) (fun c21 => ?_) (fun c21 => ?_)
      · refine r_iload1 dX3_longest_33 ?_
        refine r_istore1 dX3_longest_34 ?_
        refine r_iinc2 dX3_longest_35 (ii1 _) ?_
        refine r_goto (tgt := 9) dX3_longest_38 (by decide) ?_
        exact g_eq rfl (by rw [show mx3 T (k + 1) = mx3 T k by show (if _ then _ else _) = _; rw [if_neg (by omega)]]) rfl rfl (ih (k + 1) (by omega))
      · refine r_aload0 dX3_longest_24 ?_
        refine f_X3_26_X3 dX3_longest_25 (by first | exact m.1 | exact m0.1 | exact m1.1 | exact m2.1 | exact m3.1 | assumption | exact g_us | (rw [g_un (by omega)]; assumption) | (rw [g_un (by omega)]; exact g_us) | (rw [g_un (by omega), g_un (by omega)]; assumption) | (rw [g_un (by omega), g_un (by omega)]; exact g_us) | (rw [g_un (by omega), g_un (by omega), g_un (by omega)]; assumption) | ((repeat (rw [g_un (by omega)])); first | exact m.1 | exact m0.1 | exact m1.1 | exact m2.1 | exact m3.1 | exact g_us | assumption)) ?_
        refine r_iload2 dX3_longest_28 ?_
        refine r_iaload ((k + 1)) dX3_longest_29 m.tt rfl (by omega) (aI_at (by omega)) ?_
        refine r_goto (tgt := 34) dX3_longest_30 (by decide) ?_
        refine r_istore1 dX3_longest_34 ?_
        refine r_iinc2 dX3_longest_35 (ii1 _) ?_
        refine r_goto (tgt := 9) dX3_longest_38 (by decide) ?_
        exact g_eq rfl (by rw [show mx3 T (k + 1) = T (k + 1) by show (if _ then _ else _) = _; rw [if_pos (by omega)]]) rfl rfl (ih (k + 1) (by omega))
  refine r_aload0 dX3_longest_0 ?_
  refine f_X3_26_X3 dX3_longest_1 (by first | exact m.1 | exact m0.1 | exact m1.1 | exact m2.1 | exact m3.1 | assumption | exact g_us | (rw [g_un (by omega)]; assumption) | (rw [g_un (by omega)]; exact g_us) | (rw [g_un (by omega), g_un (by omega)]; assumption) | (rw [g_un (by omega), g_un (by omega)]; exact g_us) | (rw [g_un (by omega), g_un (by omega), g_un (by omega)]; assumption) | ((repeat (rw [g_un (by omega)])); first | exact m.1 | exact m0.1 | exact m1.1 | exact m2.1 | exact m3.1 | exact g_us | assumption)) ?_
  refine r_iconst (v := nI 0) dX3_longest_4 (by decide) ?_
  refine r_iaload (0) dX3_longest_5 m.tt rfl (by omega) (aI_at (by decide)) ?_
  refine r_istore1 dX3_longest_6 ?_
  refine r_iconst (v := nI 1) dX3_longest_7 (by decide) ?_
  refine r_istore2 dX3_longest_8 ?_
  exact loop 2 0 (by omega)
theorem k_timeOf {way : Nat} (hb : k_b K ≤ a) (m : mS a V R A h) (w : wB u (R 1)) (hw : way < 2147483648) : g_Met K mX3_timeOf 3 0 0 [.ref a, .int (nI way)] h n (gI fun r h' n' => r = nI (tmO (R 1) way) ∧ (∃ T, mS a (vT V T) R A h') ∧ mT a h h' ∧ n' = n) gN := by
  have b := w.b
  refine g_Met.of (M := mX3_timeOf) (L := [some (.ref a), some (.int (nI way)), none, none]) (by decide +kernel) (Nat.le_of_ble_eq_true rfl) rfl ?_
  have loop : ∀ (j k : Nat) (h1 : g_P), k + j = R 1 2 → mS a (vT V (tms (R 1) way k).1) R A h1 → mT a h h1 → g_G K mX3_timeOf 3 0 0 (gI fun r h' n' => r = nI (tmO (R 1) way) ∧ (∃ T, mS a (vT V T) R A h') ∧ mT a h h' ∧ n' = n) gN 8 [some (.ref a), some (.int (nI way)), some (.int (nI (tms (R 1) way k).2)), some (.int (nI k))] [] h1 n := by
    intro j
    induction j with
    | zero =>
      intro k h1 hk m1 t1
      have hk : k = R 1 2 := by omega
      subst hk
      refine r_iload3 dX3_timeOf_8 ?_
      refine r_aload0 dX3_timeOf_9 ?_
      refine r_iconst (v := nI 2) dX3_timeOf_10 (by decide) ?_
      refine r_callV (M' := mX3_at) _ dX3_timeOf_11 q3485 q3487 qs56 rfl (lw_all_tbl q3488) q138 (by exact pl_X3_at) gc_X3 (by first | exact m.1 | exact m0.1 | exact m1.1 | exact m2.1 | exact m3.1 | assumption | exact g_us | (rw [g_un (by omega)]; assumption) | (rw [g_un (by omega)]; exact g_us) | (rw [g_un (by omega), g_un (by omega)]; assumption) | (rw [g_un (by omega), g_un (by omega)]; exact g_us) | (rw [g_un (by omega), g_un (by omega), g_un (by omega)]; assumption) | ((repeat (rw [g_un (by omega)])); first | exact m.1 | exact m0.1 | exact m1.1 | exact m2.1 | exact m3.1 | exact g_us | assumption)) ((k_at m1 (by decide) (by decide))) (by omega) (Nat.le_of_ble_eq_true rfl) (by omega) (by omega) rfl (Nat.le_of_ble_eq_true rfl) rfl (kI fun r11 h11 n11 e11 => ?_) kN
      obtain ⟨rfl, rfl, rfl⟩ := e11
      refine r_icmp_geN (tgt := 52) dX3_timeOf_14 (by decide) (by omega) (by omega) (fun c14 => ?_) (fun c14 => absurd c14 (by omega))
      refine r_aload0 dX3_timeOf_52 ?_
      refine r_callV (M' := mX3_longest) _ dX3_timeOf_53 q3826 q3828 qs105 rfl (lw_all_tbl q3829) q138 (by exact pl_X3_longest) gc_X3 (by first | exact m.1 | exact m0.1 | exact m1.1 | exact m2.1 | exact m3.1 | assumption | exact g_us | (rw [g_un (by omega)]; assumption) | (rw [g_un (by omega)]; exact g_us) | (rw [g_un (by omega), g_un (by omega)]; assumption) | (rw [g_un (by omega), g_un (by omega)]; exact g_us) | (rw [g_un (by omega), g_un (by omega), g_un (by omega)]; assumption) | ((repeat (rw [g_un (by omega)])); first | exact m.1 | exact m0.1 | exact m1.1 | exact m2.1 | exact m3.1 | exact g_us | assumption)) ((k_longest m1 (fun j => by have := tms_b (j := j) (way := way) w (Nat.le_refl _); omega))) (by omega) (Nat.le_of_ble_eq_true rfl) (by omega) (by omega) rfl (Nat.le_of_ble_eq_true rfl) rfl (kI fun r53 h53 n53 e53 => ?_) kN
      obtain ⟨rfl, rfl, rfl⟩ := e53
      exact r_ireturn dX3_timeOf_56 rfl rfl (⟨rfl, ⟨_, m1⟩, t1, rfl⟩)
    | succ j ih =>
      intro k h1 hk m1 t1
      have b1 := w.l (k := k) (by omega)
      have b2 := tms_l (ρ := R 1) (way := way) (k := k)
      have b3 := Nat.mod_lt (tms (R 1) way k).2 (show 0 < R 1 5 by omega)
      refine r_iload3 dX3_timeOf_8 ?_
      refine r_aload0 dX3_timeOf_9 ?_
      refine r_iconst (v := nI 2) dX3_timeOf_10 (by decide) ?_
      refine r_callV (M' := mX3_at) _ dX3_timeOf_11 q3485 q3487 qs56 rfl (lw_all_tbl q3488) q138 (by exact pl_X3_at) gc_X3 (by first | exact m.1 | exact m0.1 | exact m1.1 | exact m2.1 | exact m3.1 | assumption | exact g_us | (rw [g_un (by omega)]; assumption) | (rw [g_un (by omega)]; exact g_us) | (rw [g_un (by omega), g_un (by omega)]; assumption) | (rw [g_un (by omega), g_un (by omega)]; exact g_us) | (rw [g_un (by omega), g_un (by omega), g_un (by omega)]; assumption) | ((repeat (rw [g_un (by omega)])); first | exact m.1 | exact m0.1 | exact m1.1 | exact m2.1 | exact m3.1 | exact g_us | assumption)) ((k_at m1 (by decide) (by decide))) (by omega) (Nat.le_of_ble_eq_true rfl) (by omega) (by omega) rfl (Nat.le_of_ble_eq_true rfl) rfl (kI fun r11 h11 n11 e11 => ?_) kN
      obtain ⟨rfl, rfl, rfl⟩ := e11
      refine r_icmp_geN (tgt := 52) dX3_timeOf_14 (by decide) (by omega) (by omega) (fun c14 => absurd c14 (by omega)) (fun c14 => ?_)
      refine r_aload0 dX3_timeOf_17 ?_
      refine f_X3_26_X3 dX3_timeOf_18 m1.1 ?_
      refine r_iload2 dX3_timeOf_21 ?_
      refine r_aload0 dX3_timeOf_22 ?_
      refine r_iconst (v := nI 5) dX3_timeOf_23 (by decide) ?_
      refine r_callV (M' := mX3_at) _ dX3_timeOf_24 q3485 q3487 qs56 rfl (lw_all_tbl q3488) q138 (by exact pl_X3_at) gc_X3 (by first | exact m.1 | exact m0.1 | exact m1.1 | exact m2.1 | exact m3.1 | assumption | exact g_us | (rw [g_un (by omega)]; assumption) | (rw [g_un (by omega)]; exact g_us) | (rw [g_un (by omega), g_un (by omega)]; assumption) | (rw [g_un (by omega), g_un (by omega)]; exact g_us) | (rw [g_un (by omega), g_un (by omega), g_un (by omega)]; assumption) | ((repeat (rw [g_un (by omega)])); first | exact m.1 | exact m0.1 | exact m1.1 | exact m2.1 | exact m3.1 | exact g_us | assumption)) ((k_at m1 (by decide) (by decide))) (by omega) (Nat.le_of_ble_eq_true rfl) (by omega) (by omega) rfl (Nat.le_of_ble_eq_true rfl) rfl (kI fun r24 h24 n24 e24 => ?_) kN
      obtain ⟨rfl, rfl, rfl⟩ := e24
      refine r_irem dX3_timeOf_27 (nI_ne0 (by omega) (by omega)) (by first | exact pk_rem (by omega) (by omega) (by omega) | rfl) ?_
      refine r_dup2 dX3_timeOf_28 ?_
      refine r_iaload (((tms (R 1) way k).2 % R 1 5)) dX3_timeOf_29 m1.tt rfl (by omega) (aI_at (by omega)) ?_
      refine r_aload0 dX3_timeOf_30 ?_
      refine r_iload3 dX3_timeOf_31 ?_
      refine r_iconst (v := nI 1) dX3_timeOf_32 (by decide) ?_
      refine r_callV (M' := mX3_loaf) _ dX3_timeOf_33 q3580 q3582 qs75 rfl (lw_all_tbl q3583) q138 (by exact pl_X3_loaf) gc_X3 (by first | exact m.1 | exact m0.1 | exact m1.1 | exact m2.1 | exact m3.1 | assumption | exact g_us | (rw [g_un (by omega)]; assumption) | (rw [g_un (by omega)]; exact g_us) | (rw [g_un (by omega), g_un (by omega)]; assumption) | (rw [g_un (by omega), g_un (by omega)]; exact g_us) | (rw [g_un (by omega), g_un (by omega), g_un (by omega)]; assumption) | ((repeat (rw [g_un (by omega)])); first | exact m.1 | exact m0.1 | exact m1.1 | exact m2.1 | exact m3.1 | exact g_us | assumption)) ((k_loaf m1 (by omega) (by decide))) (by omega) (Nat.le_of_ble_eq_true rfl) (by omega) (by omega) rfl (Nat.le_of_ble_eq_true rfl) rfl (kI fun r33 h33 n33 e33 => ?_) kN
      obtain ⟨rfl, rfl, rfl⟩ := e33
      rw [show 32 + 3 * k + 1 = 33 + 3 * k by omega]
      refine r_iadd dX3_timeOf_36 (by first | exact nI_add _ _ | rfl) ?_
      refine r_iastore (((tms (R 1) way k).2 % R 1 5)) dX3_timeOf_37 (by omega) m1.tt rfl (by omega) (by rw [aI_len]; omega) ?_
      have m2 := m1.t (j := (tms (R 1) way k).2 % R 1 5) (x := (tms (R 1) way k).1 ((tms (R 1) way k).2 % R 1 5) + R 1 (33 + 3 * k)) rfl
      refine r_iload2 dX3_timeOf_38 ?_
      refine r_aload0 dX3_timeOf_39 ?_
      refine r_iconst (v := nI 5) dX3_timeOf_40 (by decide) ?_
      refine r_callV (M' := mX3_at) _ dX3_timeOf_41 q3485 q3487 qs56 rfl (lw_all_tbl q3488) q138 (by exact pl_X3_at) gc_X3 (by first | exact m.1 | exact m0.1 | exact m1.1 | exact m2.1 | exact m3.1 | assumption | exact g_us | (rw [g_un (by omega)]; assumption) | (rw [g_un (by omega)]; exact g_us) | (rw [g_un (by omega), g_un (by omega)]; assumption) | (rw [g_un (by omega), g_un (by omega)]; exact g_us) | (rw [g_un (by omega), g_un (by omega), g_un (by omega)]; assumption) | ((repeat (rw [g_un (by omega)])); first | exact m.1 | exact m0.1 | exact m1.1 | exact m2.1 | exact m3.1 | exact g_us | assumption)) ((k_at m2 (by decide) (by decide))) (by omega) (Nat.le_of_ble_eq_true rfl) (by omega) (by omega) rfl (Nat.le_of_ble_eq_true rfl) rfl (kI fun r41 h41 n41 e41 => ?_) kN
      obtain ⟨rfl, rfl, rfl⟩ := e41
      refine r_idiv dX3_timeOf_44 (nI_ne0 (by omega) (by omega)) (by first | exact pk_div (by omega) (by omega) (by omega) | rfl) ?_
      refine r_istore2 dX3_timeOf_45 ?_
      refine r_iinc3 dX3_timeOf_46 (ii1 _) ?_
      refine r_goto (tgt := 8) dX3_timeOf_49 (by decide) ?_
      exact ih (k + 1) _ (by omega) m2 (t1.tr (mT.up (by omega)))
  refine r_aload0 dX3_timeOf_0 ?_
  refine r_callV (M' := mX3_starts) _ dX3_timeOf_1 q3822 q3824 qs104 rfl (lw_all_tbl q3825) q138 (by exact pl_X3_starts) gc_X3 (by first | exact m.1 | exact m0.1 | exact m1.1 | exact m2.1 | exact m3.1 | assumption | exact g_us | (rw [g_un (by omega)]; assumption) | (rw [g_un (by omega)]; exact g_us) | (rw [g_un (by omega), g_un (by omega)]; assumption) | (rw [g_un (by omega), g_un (by omega)]; exact g_us) | (rw [g_un (by omega), g_un (by omega), g_un (by omega)]; assumption) | ((repeat (rw [g_un (by omega)])); first | exact m.1 | exact m0.1 | exact m1.1 | exact m2.1 | exact m3.1 | exact g_us | assumption)) ((k_starts hb m)) (by omega) (Nat.le_of_ble_eq_true rfl) (by omega) (by omega) rfl (Nat.le_of_ble_eq_true rfl) rfl (kV fun h1 n1 e1 => ?_) kN
  obtain ⟨m1, t1, rfl⟩ := e1
  refine r_iload1 dX3_timeOf_4 ?_
  refine r_istore2 dX3_timeOf_5 ?_
  refine r_iconst (v := nI 0) dX3_timeOf_6 (by decide) ?_
  refine r_istore3 dX3_timeOf_7 ?_
  exact loop (R 1 2) 0 _ (by omega) m1 t1
end
section
variable {K : g_K} {a n u : Nat} {V : Nat → Nat → Int32} {R : Nat → Nat → Nat} {A : Nat → Nat → Int64} {h : g_P}
theorem k_shortestTime (hb : k_b K ≤ a) (m : mS a V R A h) (w : wB u (R 1)) : g_Met K mX3_shortestTime 4 0 0 [.ref a] h n (gI fun r h' n' => mQ a V R A 0 (sht (R 1)) r h' ∧ mT a h h' ∧ n' = n) gN := by
  have b := w.b
  have bp := pow_b w (Nat.le_refl _)
  have bq : 0 < R 1 5 ^ R 1 2 := Nat.pow_pos (by omega)
  refine g_Met.of (M := mX3_shortestTime) (L := [some (.ref a), none, none, none]) (by decide +kernel) (Nat.le_of_ble_eq_true rfl) rfl ?_
  have loop2 : ∀ (j k : Nat) (h1 : g_P), k + j = R 1 5 ^ R 1 2 - 1 → (∃ T, mS a (vT (vZ V) T) R A h1) → mT a h h1 → g_G K mX3_shortestTime 4 0 0 (gI fun r h' n' => mQ a V R A 0 (sht (R 1)) r h' ∧ mT a h h' ∧ n' = n) gN 40 [some (.ref a), some (.int (nI (R 1 5 ^ R 1 2))), some (.int (nI (mnF (tmO (R 1)) k))), some (.int (nI (k + 1)))] [] h1 n := by
    intro j
    induction j with
    | zero =>
      intro k h1 hk m1 t1
      obtain ⟨T, m1⟩ := m1
      have hk : k = R 1 5 ^ R 1 2 - 1 := by omega
      subst hk
      refine r_iload3 dX3_shortestTime_40 ?_
      refine r_iload1 dX3_shortestTime_41 ?_
      refine r_icmp_geN (tgt := 70) dX3_shortestTime_42 (by decide) (by omega) (by omega) (fun c42 => ?_) (fun c42 => absurd c42 (by omega))
      refine r_iload2 dX3_shortestTime_70 ?_
      exact r_ireturn dX3_shortestTime_71 rfl rfl (⟨mQ.yes rfl rfl m1 (by rw [vT_0, vZ_0]) (vE.z.tr vT_E), t1, rfl⟩)
    | succ j ih =>
      intro k h1 hk m1 t1
      obtain ⟨T, m1⟩ := m1
      have b1 := tmO_b w (way := k + 1)
      have b2 : mnF (tmO (R 1)) k ≤ 480 := Nat.le_trans (mnF_le (Nat.zero_le _)) (tmO_b w)
      refine r_iload3 dX3_shortestTime_40 ?_
      refine r_iload1 dX3_shortestTime_41 ?_
      refine r_icmp_geN (tgt := 70) dX3_shortestTime_42 (by decide) (by omega) (by omega) (fun c42 => absurd c42 (by omega)) (fun c42 => ?_)
      refine r_aload0 dX3_shortestTime_45 ?_
      refine r_iload3 dX3_shortestTime_46 ?_
      refine r_callV (M' := mX3_timeOf) _ dX3_shortestTime_47 q3818 q3820 qs103 rfl (lw_all_tbl q3821) q138 (by exact pl_X3_timeOf) gc_X3 (by first | exact m.1 | exact m0.1 | exact m1.1 | exact m2.1 | exact m3.1 | assumption | exact g_us | (rw [g_un (by omega)]; assumption) | (rw [g_un (by omega)]; exact g_us) | (rw [g_un (by omega), g_un (by omega)]; assumption) | (rw [g_un (by omega), g_un (by omega)]; exact g_us) | (rw [g_un (by omega), g_un (by omega), g_un (by omega)]; assumption) | ((repeat (rw [g_un (by omega)])); first | exact m.1 | exact m0.1 | exact m1.1 | exact m2.1 | exact m3.1 | exact g_us | assumption)) ((k_timeOf hb m1 w (by omega))) (by omega) (Nat.le_of_ble_eq_true rfl) (by omega) (by omega) rfl (Nat.le_of_ble_eq_true rfl) rfl (kI fun r47 h47 n47 e47 => ?_) kN
      obtain ⟨rfl, ⟨T2, m2⟩, t2, rfl⟩ := e47
      rw [vT_vT] at m2
      refine r_iload2 dX3_shortestTime_50 ?_
      refine r_icmp_geN (tgt := 62) dX3_shortestTime_51 (by decide) (by omega) (by omega) (fun c51 => ?_) (fun c51 => ?_)
      · refine r_iload2 dX3_shortestTime_62 ?_
        refine r_istore2 dX3_shortestTime_63 ?_
        refine r_iinc3 dX3_shortestTime_64 (ii1 _) ?_
        refine r_goto (tgt := 40) dX3_shortestTime_67 (by decide) ?_
        exact g_eq rfl (by rw [show mnF (tmO (R 1)) (k + 1) = mnF (tmO (R 1)) k by show (if _ then _ else _) = _; rw [if_neg (by omega)]]) rfl rfl (ih (k + 1) _ (by omega) ⟨_, m2⟩ (t1.tr t2))
      · refine r_aload0 dX3_shortestTime_54 ?_
        refine r_iload3 dX3_shortestTime_55 ?_
        refine r_callV (M' := mX3_timeOf) _ dX3_shortestTime_56 q3818 q3820 qs103 rfl (lw_all_tbl q3821) q138 (by exact pl_X3_timeOf) gc_X3 (by first | exact m.1 | exact m0.1 | exact m1.1 | exact m2.1 | exact m3.1 | assumption | exact g_us | (rw [g_un (by omega)]; assumption) | (rw [g_un (by omega)]; exact g_us) | (rw [g_un (by omega), g_un (by omega)]; assumption) | (rw [g_un (by omega), g_un (by omega)]; exact g_us) | (rw [g_un (by omega), g_un (by omega), g_un (by omega)]; assumption) | ((repeat (rw [g_un (by omega)])); first | exact m.1 | exact m0.1 | exact m1.1 | exact m2.1 | exact m3.1 | exact g_us | assumption)) ((k_timeOf hb m2 w (by omega))) (by omega) (Nat.le_of_ble_eq_true rfl) (by omega) (by omega) rfl (Nat.le_of_ble_eq_true rfl) rfl (kI fun r56 h56 n56 e56 => ?_) kN
        obtain ⟨rfl, ⟨T3, m3⟩, t3, rfl⟩ := e56
        rw [vT_vT] at m3
        refine r_goto (tgt := 63) dX3_shortestTime_59 (by decide) ?_
        refine r_istore2 dX3_shortestTime_63 ?_
        refine r_iinc3 dX3_shortestTime_64 (ii1 _) ?_
        refine r_goto (tgt := 40) dX3_shortestTime_67 (by decide) ?_
        exact g_eq rfl (by rw [show mnF (tmO (R 1)) (k + 1) = tmO (R 1) (k + 1) by show (if _ then _ else _) = _; rw [if_pos (by omega)]]) rfl rfl (ih (k + 1) _ (by omega) ⟨_, m3⟩ ((t1.tr t2).tr t3))
  have loop1 : ∀ (j k : Nat) (h1 : g_P), k + j = R 1 2 → mS a (vZ V) R A h1 → mT a h h1 → g_G K mX3_shortestTime 4 0 0 (gI fun r h' n' => mQ a V R A 0 (sht (R 1)) r h' ∧ mT a h h' ∧ n' = n) gN 9 [some (.ref a), some (.int (nI (R 1 5 ^ k))), some (.int (nI k)), none] [] h1 n := by
    intro j
    induction j with
    | zero =>
      intro k h1 hk m1 t1
      have hk : k = R 1 2 := by omega
      subst hk
      refine r_iload2 dX3_shortestTime_9 ?_
      refine r_aload0 dX3_shortestTime_10 ?_
      refine r_iconst (v := nI 2) dX3_shortestTime_11 (by decide) ?_
      refine r_callV (M' := mX3_at) _ dX3_shortestTime_12 q3485 q3487 qs56 rfl (lw_all_tbl q3488) q138 (by exact pl_X3_at) gc_X3 (by first | exact m.1 | exact m0.1 | exact m1.1 | exact m2.1 | exact m3.1 | assumption | exact g_us | (rw [g_un (by omega)]; assumption) | (rw [g_un (by omega)]; exact g_us) | (rw [g_un (by omega), g_un (by omega)]; assumption) | (rw [g_un (by omega), g_un (by omega)]; exact g_us) | (rw [g_un (by omega), g_un (by omega), g_un (by omega)]; assumption) | ((repeat (rw [g_un (by omega)])); first | exact m.1 | exact m0.1 | exact m1.1 | exact m2.1 | exact m3.1 | exact g_us | assumption)) ((k_at m1 (by decide) (by decide))) (by omega) (Nat.le_of_ble_eq_true rfl) (by omega) (by omega) rfl (Nat.le_of_ble_eq_true rfl) rfl (kI fun r12 h12 n12 e12 => ?_) kN
      obtain ⟨rfl, rfl, rfl⟩ := e12
      refine r_icmp_geN (tgt := 32) dX3_shortestTime_15 (by decide) (by omega) (by omega) (fun c15 => ?_) (fun c15 => absurd c15 (by omega))
      refine r_aload0 dX3_shortestTime_32 ?_
      refine r_iconst (v := nI 0) dX3_shortestTime_33 (by decide) ?_
      refine r_callV (M' := mX3_timeOf) _ dX3_shortestTime_34 q3818 q3820 qs103 rfl (lw_all_tbl q3821) q138 (by exact pl_X3_timeOf) gc_X3 (by first | exact m.1 | exact m0.1 | exact m1.1 | exact m2.1 | exact m3.1 | assumption | exact g_us | (rw [g_un (by omega)]; assumption) | (rw [g_un (by omega)]; exact g_us) | (rw [g_un (by omega), g_un (by omega)]; assumption) | (rw [g_un (by omega), g_un (by omega)]; exact g_us) | (rw [g_un (by omega), g_un (by omega), g_un (by omega)]; assumption) | ((repeat (rw [g_un (by omega)])); first | exact m.1 | exact m0.1 | exact m1.1 | exact m2.1 | exact m3.1 | exact g_us | assumption)) ((k_timeOf hb m1 w (by decide))) (by omega) (Nat.le_of_ble_eq_true rfl) (by omega) (by omega) rfl (Nat.le_of_ble_eq_true rfl) rfl (kI fun r34 h34 n34 e34 => ?_) kN
      obtain ⟨rfl, m2, t2, rfl⟩ := e34
      refine r_istore2 dX3_shortestTime_37 ?_
      refine r_iconst (v := nI 1) dX3_shortestTime_38 (by decide) ?_
      refine r_istore3 dX3_shortestTime_39 ?_
      exact loop2 (R 1 5 ^ R 1 2 - 1) 0 _ (by omega) m2 (t1.tr t2)
    | succ j ih =>
      intro k h1 hk m1 t1
      refine r_iload2 dX3_shortestTime_9 ?_
      refine r_aload0 dX3_shortestTime_10 ?_
      refine r_iconst (v := nI 2) dX3_shortestTime_11 (by decide) ?_
      refine r_callV (M' := mX3_at) _ dX3_shortestTime_12 q3485 q3487 qs56 rfl (lw_all_tbl q3488) q138 (by exact pl_X3_at) gc_X3 (by first | exact m.1 | exact m0.1 | exact m1.1 | exact m2.1 | exact m3.1 | assumption | exact g_us | (rw [g_un (by omega)]; assumption) | (rw [g_un (by omega)]; exact g_us) | (rw [g_un (by omega), g_un (by omega)]; assumption) | (rw [g_un (by omega), g_un (by omega)]; exact g_us) | (rw [g_un (by omega), g_un (by omega), g_un (by omega)]; assumption) | ((repeat (rw [g_un (by omega)])); first | exact m.1 | exact m0.1 | exact m1.1 | exact m2.1 | exact m3.1 | exact g_us | assumption)) ((k_at m1 (by decide) (by decide))) (by omega) (Nat.le_of_ble_eq_true rfl) (by omega) (by omega) rfl (Nat.le_of_ble_eq_true rfl) rfl (kI fun r12 h12 n12 e12 => ?_) kN
      obtain ⟨rfl, rfl, rfl⟩ := e12
      refine r_icmp_geN (tgt := 32) dX3_shortestTime_15 (by decide) (by omega) (by omega) (fun c15 => absurd c15 (by omega)) (fun c15 => ?_)
      refine r_iload1 dX3_shortestTime_18 ?_
      refine r_aload0 dX3_shortestTime_19 ?_
      refine r_iconst (v := nI 5) dX3_shortestTime_20 (by decide) ?_
      refine r_callV (M' := mX3_at) _ dX3_shortestTime_21 q3485 q3487 qs56 rfl (lw_all_tbl q3488) q138 (by exact pl_X3_at) gc_X3 (by first | exact m.1 | exact m0.1 | exact m1.1 | exact m2.1 | exact m3.1 | assumption | exact g_us | (rw [g_un (by omega)]; assumption) | (rw [g_un (by omega)]; exact g_us) | (rw [g_un (by omega), g_un (by omega)]; assumption) | (rw [g_un (by omega), g_un (by omega)]; exact g_us) | (rw [g_un (by omega), g_un (by omega), g_un (by omega)]; assumption) | ((repeat (rw [g_un (by omega)])); first | exact m.1 | exact m0.1 | exact m1.1 | exact m2.1 | exact m3.1 | exact g_us | assumption)) ((k_at m1 (by decide) (by decide))) (by omega) (Nat.le_of_ble_eq_true rfl) (by omega) (by omega) rfl (Nat.le_of_ble_eq_true rfl) rfl (kI fun r21 h21 n21 e21 => ?_) kN
      obtain ⟨rfl, rfl, rfl⟩ := e21
      refine r_imul dX3_shortestTime_24 (by first | exact pk_mul _ _ | rfl) ?_
      refine r_istore1 dX3_shortestTime_25 ?_
      refine r_iinc2 dX3_shortestTime_26 (ii1 _) ?_
      refine r_goto (tgt := 9) dX3_shortestTime_29 (by decide) ?_
      exact ih (k + 1) _ (by omega) m1 t1
  refine r_aload0 dX3_shortestTime_0 ?_
  refine r_iconst (v := nI 0) dX3_shortestTime_1 (by decide) ?_
  refine p_X3_1_X3 dX3_shortestTime_2 (by omega) (by first | exact m.1 | exact m0.1 | exact m1.1 | exact m2.1 | exact m3.1 | assumption | exact g_us | (rw [g_un (by omega)]; assumption) | (rw [g_un (by omega)]; exact g_us) | (rw [g_un (by omega), g_un (by omega)]; assumption) | (rw [g_un (by omega), g_un (by omega)]; exact g_us) | (rw [g_un (by omega), g_un (by omega), g_un (by omega)]; assumption) | ((repeat (rw [g_un (by omega)])); first | exact m.1 | exact m0.1 | exact m1.1 | exact m2.1 | exact m3.1 | exact g_us | assumption)) ?_
  refine m.goZ (fun h0 m0 t0 => ?_)
  refine r_iconst (v := nI 1) dX3_shortestTime_5 (by decide) ?_
  refine r_istore1 dX3_shortestTime_6 ?_
  refine r_iconst (v := nI 0) dX3_shortestTime_7 (by decide) ?_
  refine r_istore2 dX3_shortestTime_8 ?_
  exact loop1 (R 1 2) 0 _ (by omega) m0 t0
theorem k_shortestTimeByDeciding (hb : k_b K ≤ a) (m : mS a V R A h) (w : wB u (R 1)) : g_Met K mX3_shortestTimeByDeciding 5 0 0 [.ref a] h n (gI fun r h' n' => mQ a V R A 0 (sht (R 1)) r h' ∧ mT a h h' ∧ n' = n) gN := by
  refine g_Met.of (M := mX3_shortestTimeByDeciding) (L := [some (.ref a)]) (by decide +kernel) (Nat.le_of_ble_eq_true rfl) rfl ?_
  refine r_aload0 dX3_shortestTimeByDeciding_0 ?_
  refine r_callV (M' := mX3_shortestTime) _ dX3_shortestTimeByDeciding_1 q3834 q3815 q3816 rfl (lw_all_tbl q3817) q138 (by exact pl_X3_shortestTime) gc_X3 (by first | exact m.1 | exact m0.1 | exact m1.1 | exact m2.1 | exact m3.1 | assumption | exact g_us | (rw [g_un (by omega)]; assumption) | (rw [g_un (by omega)]; exact g_us) | (rw [g_un (by omega), g_un (by omega)]; assumption) | (rw [g_un (by omega), g_un (by omega)]; exact g_us) | (rw [g_un (by omega), g_un (by omega), g_un (by omega)]; assumption) | ((repeat (rw [g_un (by omega)])); first | exact m.1 | exact m0.1 | exact m1.1 | exact m2.1 | exact m3.1 | exact g_us | assumption)) ((k_shortestTime hb m w)) (by omega) (Nat.le_of_ble_eq_true rfl) (by omega) (by omega) rfl (Nat.le_of_ble_eq_true rfl) rfl (kI fun r1 h1 n1 e1 => ?_) kN
  exact r_ireturn dX3_shortestTimeByDeciding_4 rfl rfl (e1)
/-! totals -/
theorem k_toldLong {k : Nat} (hb : k_b K ≤ a) (m : mS a V R A h) (h1 : 6 ≤ k) (h2 : k < 10) : g_Met K mX3_toldLong 2 0 0 [.ref a, .int (nI k)] h n (gJ fun r h' n' => r = A 1 k ∧ mS a (vZ V) R A h' ∧ mT a h h' ∧ n' = n) gN := by
  refine g_Met.of (M := mX3_toldLong) (L := [some (.ref a), some (.int (nI k))]) (by decide +kernel) (Nat.le_of_ble_eq_true rfl) rfl ?_
  refine r_aload0 dX3_toldLong_0 ?_
  refine r_iconst (v := nI 0) dX3_toldLong_1 (by decide) ?_
  refine p_X3_1_X3 dX3_toldLong_2 (by omega) (by first | exact m.1 | exact m0.1 | exact m1.1 | exact m2.1 | exact m3.1 | assumption | exact g_us | (rw [g_un (by omega)]; assumption) | (rw [g_un (by omega)]; exact g_us) | (rw [g_un (by omega), g_un (by omega)]; assumption) | (rw [g_un (by omega), g_un (by omega)]; exact g_us) | (rw [g_un (by omega), g_un (by omega), g_un (by omega)]; assumption) | ((repeat (rw [g_un (by omega)])); first | exact m.1 | exact m0.1 | exact m1.1 | exact m2.1 | exact m3.1 | exact g_us | assumption)) ?_
  refine m.goZ (fun h0 m0 t0 => ?_)
  refine r_aload0 dX3_toldLong_5 ?_
  refine f_X3_13_X3 dX3_toldLong_6 (by first | exact m.1 | exact m0.1 | exact m1.1 | exact m2.1 | exact m3.1 | assumption | exact g_us | (rw [g_un (by omega)]; assumption) | (rw [g_un (by omega)]; exact g_us) | (rw [g_un (by omega), g_un (by omega)]; assumption) | (rw [g_un (by omega), g_un (by omega)]; exact g_us) | (rw [g_un (by omega), g_un (by omega), g_un (by omega)]; assumption) | ((repeat (rw [g_un (by omega)])); first | exact m.1 | exact m0.1 | exact m1.1 | exact m2.1 | exact m3.1 | exact g_us | assumption)) ?_
  refine r_iload1 dX3_toldLong_9 ?_
  refine r_laload (k) dX3_toldLong_10 m0.w rfl (by omega) (by rw [aL_at (by omega), rw_ac h1 h2]) ?_
  exact r_lreturn dX3_toldLong_11 rfl (⟨rfl, m0, t0, rfl⟩)
theorem k_pouredTotal (hb : k_b K ≤ a) (m : mS a V R A h) : g_Met K mX3_pouredTotal 3 0 0 [.ref a] h n (gJ fun r h' n' => r = A 1 6 ∧ mS a (vZ V) R A h' ∧ mT a h h' ∧ n' = n) gN := by
  refine g_Met.of (M := mX3_pouredTotal) (L := [some (.ref a)]) (by decide +kernel) (Nat.le_of_ble_eq_true rfl) rfl ?_
  refine r_aload0 dX3_pouredTotal_0 ?_
  refine r_bipush (v := nI 6) dX3_pouredTotal_1 (by decide) ?_
  refine r_callV (M' := mX3_toldLong) _ dX3_pouredTotal_3 q3843 q3845 qs106 rfl (lw_all_tbl q3846) q138 (by exact pl_X3_toldLong) gc_X3 (by first | exact m.1 | exact m0.1 | exact m1.1 | exact m2.1 | exact m3.1 | assumption | exact g_us | (rw [g_un (by omega)]; assumption) | (rw [g_un (by omega)]; exact g_us) | (rw [g_un (by omega), g_un (by omega)]; assumption) | (rw [g_un (by omega), g_un (by omega)]; exact g_us) | (rw [g_un (by omega), g_un (by omega), g_un (by omega)]; assumption) | ((repeat (rw [g_un (by omega)])); first | exact m.1 | exact m0.1 | exact m1.1 | exact m2.1 | exact m3.1 | exact g_us | assumption)) ((k_toldLong hb m (by decide) (by decide))) (by omega) (Nat.le_of_ble_eq_true rfl) (by omega) (by omega) rfl (Nat.le_of_ble_eq_true rfl) rfl (kJ fun r3 h3 n3 e3 => ?_) kN
  exact r_lreturn dX3_pouredTotal_6 rfl (e3)
theorem k_spilledTotal (hb : k_b K ≤ a) (m : mS a V R A h) : g_Met K mX3_spilledTotal 3 0 0 [.ref a] h n (gJ fun r h' n' => r = A 1 7 ∧ mS a (vZ V) R A h' ∧ mT a h h' ∧ n' = n) gN := by
  refine g_Met.of (M := mX3_spilledTotal) (L := [some (.ref a)]) (by decide +kernel) (Nat.le_of_ble_eq_true rfl) rfl ?_
  refine r_aload0 dX3_spilledTotal_0 ?_
  refine r_bipush (v := nI 7) dX3_spilledTotal_1 (by decide) ?_
  refine r_callV (M' := mX3_toldLong) _ dX3_spilledTotal_3 q3843 q3845 qs106 rfl (lw_all_tbl q3846) q138 (by exact pl_X3_toldLong) gc_X3 (by first | exact m.1 | exact m0.1 | exact m1.1 | exact m2.1 | exact m3.1 | assumption | exact g_us | (rw [g_un (by omega)]; assumption) | (rw [g_un (by omega)]; exact g_us) | (rw [g_un (by omega), g_un (by omega)]; assumption) | (rw [g_un (by omega), g_un (by omega)]; exact g_us) | (rw [g_un (by omega), g_un (by omega), g_un (by omega)]; assumption) | ((repeat (rw [g_un (by omega)])); first | exact m.1 | exact m0.1 | exact m1.1 | exact m2.1 | exact m3.1 | exact g_us | assumption)) ((k_toldLong hb m (by decide) (by decide))) (by omega) (Nat.le_of_ble_eq_true rfl) (by omega) (by omega) rfl (Nat.le_of_ble_eq_true rfl) rfl (kJ fun r3 h3 n3 e3 => ?_) kN
  exact r_lreturn dX3_spilledTotal_6 rfl (e3)
theorem k_goneTotal (hb : k_b K ≤ a) (m : mS a V R A h) : g_Met K mX3_goneTotal 3 0 0 [.ref a] h n (gJ fun r h' n' => r = A 1 8 ∧ mS a (vZ V) R A h' ∧ mT a h h' ∧ n' = n) gN := by
  refine g_Met.of (M := mX3_goneTotal) (L := [some (.ref a)]) (by decide +kernel) (Nat.le_of_ble_eq_true rfl) rfl ?_
  refine r_aload0 dX3_goneTotal_0 ?_
  refine r_bipush (v := nI 8) dX3_goneTotal_1 (by decide) ?_
  refine r_callV (M' := mX3_toldLong) _ dX3_goneTotal_3 q3843 q3845 qs106 rfl (lw_all_tbl q3846) q138 (by exact pl_X3_toldLong) gc_X3 (by first | exact m.1 | exact m0.1 | exact m1.1 | exact m2.1 | exact m3.1 | assumption | exact g_us | (rw [g_un (by omega)]; assumption) | (rw [g_un (by omega)]; exact g_us) | (rw [g_un (by omega), g_un (by omega)]; assumption) | (rw [g_un (by omega), g_un (by omega)]; exact g_us) | (rw [g_un (by omega), g_un (by omega), g_un (by omega)]; assumption) | ((repeat (rw [g_un (by omega)])); first | exact m.1 | exact m0.1 | exact m1.1 | exact m2.1 | exact m3.1 | exact g_us | assumption)) ((k_toldLong hb m (by decide) (by decide))) (by omega) (Nat.le_of_ble_eq_true rfl) (by omega) (by omega) rfl (Nat.le_of_ble_eq_true rfl) rfl (kJ fun r3 h3 n3 e3 => ?_) kN
  exact r_lreturn dX3_goneTotal_6 rfl (e3)
theorem k_errorTotal (hb : k_b K ≤ a) (m : mS a V R A h) : g_Met K mX3_errorTotal 3 0 0 [.ref a] h n (gJ fun r h' n' => r = A 1 9 ∧ mS a (vZ V) R A h' ∧ mT a h h' ∧ n' = n) gN := by
  refine g_Met.of (M := mX3_errorTotal) (L := [some (.ref a)]) (by decide +kernel) (Nat.le_of_ble_eq_true rfl) rfl ?_
  refine r_aload0 dX3_errorTotal_0 ?_
  refine r_bipush (v := nI 9) dX3_errorTotal_1 (by decide) ?_
  refine r_callV (M' := mX3_toldLong) _ dX3_errorTotal_3 q3843 q3845 qs106 rfl (lw_all_tbl q3846) q138 (by exact pl_X3_toldLong) gc_X3 (by first | exact m.1 | exact m0.1 | exact m1.1 | exact m2.1 | exact m3.1 | assumption | exact g_us | (rw [g_un (by omega)]; assumption) | (rw [g_un (by omega)]; exact g_us) | (rw [g_un (by omega), g_un (by omega)]; assumption) | (rw [g_un (by omega), g_un (by omega)]; exact g_us) | (rw [g_un (by omega), g_un (by omega), g_un (by omega)]; assumption) | ((repeat (rw [g_un (by omega)])); first | exact m.1 | exact m0.1 | exact m1.1 | exact m2.1 | exact m3.1 | exact g_us | assumption)) ((k_toldLong hb m (by decide) (by decide))) (by omega) (Nat.le_of_ble_eq_true rfl) (by omega) (by omega) rfl (Nat.le_of_ble_eq_true rfl) rfl (kJ fun r3 h3 n3 e3 => ?_) kN
  exact r_lreturn dX3_errorTotal_6 rfl (e3)
theorem k_errorByAccounts (hb : k_b K ≤ a) (m : mS a V R A h) : g_Met K mX3_errorByAccounts 3 0 0 [.ref a] h n (gJ fun r h' n' => r = A 1 9 ∧ mS a (vZ V) R A h' ∧ mT a h h' ∧ n' = n) gN := by
  refine g_Met.of (M := mX3_errorByAccounts) (L := [some (.ref a)]) (by decide +kernel) (Nat.le_of_ble_eq_true rfl) rfl ?_
  refine r_aload0 dX3_errorByAccounts_0 ?_
  refine r_bipush (v := nI 9) dX3_errorByAccounts_1 (by decide) ?_
  refine r_callV (M' := mX3_toldLong) _ dX3_errorByAccounts_3 q3843 q3845 qs106 rfl (lw_all_tbl q3846) q138 (by exact pl_X3_toldLong) gc_X3 (by first | exact m.1 | exact m0.1 | exact m1.1 | exact m2.1 | exact m3.1 | assumption | exact g_us | (rw [g_un (by omega)]; assumption) | (rw [g_un (by omega)]; exact g_us) | (rw [g_un (by omega), g_un (by omega)]; assumption) | (rw [g_un (by omega), g_un (by omega)]; exact g_us) | (rw [g_un (by omega), g_un (by omega), g_un (by omega)]; assumption) | ((repeat (rw [g_un (by omega)])); first | exact m.1 | exact m0.1 | exact m1.1 | exact m2.1 | exact m3.1 | exact g_us | assumption)) ((k_toldLong hb m (by decide) (by decide))) (by omega) (Nat.le_of_ble_eq_true rfl) (by omega) (by omega) rfl (Nat.le_of_ble_eq_true rfl) rfl (kJ fun r3 h3 n3 e3 => ?_) kN
  exact r_lreturn dX3_errorByAccounts_6 rfl (e3)
theorem k_crumbsNow (hb : k_b K ≤ a) (m : mS a V R A h) (w : wB u (R 1)) : g_Met K mX3_crumbsNow 4 0 0 [.ref a] h n (gI fun r h' n' => mQ a V R A 0 (cts (R 1) + ilv (R 1)) r h' ∧ mS a (vZ V) R A h' ∧ r = nI (cts (R 1) + ilv (R 1)) ∧ mT a h h' ∧ n' = n) gN := by
  refine g_Met.of (M := mX3_crumbsNow) (L := [some (.ref a)]) (by decide +kernel) (Nat.le_of_ble_eq_true rfl) rfl ?_
  refine r_aload0 dX3_crumbsNow_0 ?_
  refine r_iconst (v := nI 0) dX3_crumbsNow_1 (by decide) ?_
  refine p_X3_1_X3 dX3_crumbsNow_2 (by omega) (by first | exact m.1 | exact m0.1 | exact m1.1 | exact m2.1 | exact m3.1 | assumption | exact g_us | (rw [g_un (by omega)]; assumption) | (rw [g_un (by omega)]; exact g_us) | (rw [g_un (by omega), g_un (by omega)]; assumption) | (rw [g_un (by omega), g_un (by omega)]; exact g_us) | (rw [g_un (by omega), g_un (by omega), g_un (by omega)]; assumption) | ((repeat (rw [g_un (by omega)])); first | exact m.1 | exact m0.1 | exact m1.1 | exact m2.1 | exact m3.1 | exact g_us | assumption)) ?_
  refine m.goZ (fun h0 m0 t0 => ?_)
  refine r_aload0 dX3_crumbsNow_5 ?_
  refine r_callV (M' := mX3_contents) _ dX3_crumbsNow_6 q3592 q3594 qs77 rfl (lw_all_tbl q3595) q138 (by exact pl_X3_contents) gc_X3 (by first | exact m.1 | exact m0.1 | exact m1.1 | exact m2.1 | exact m3.1 | assumption | exact g_us | (rw [g_un (by omega)]; assumption) | (rw [g_un (by omega)]; exact g_us) | (rw [g_un (by omega), g_un (by omega)]; assumption) | (rw [g_un (by omega), g_un (by omega)]; exact g_us) | (rw [g_un (by omega), g_un (by omega), g_un (by omega)]; assumption) | ((repeat (rw [g_un (by omega)])); first | exact m.1 | exact m0.1 | exact m1.1 | exact m2.1 | exact m3.1 | exact g_us | assumption)) ((k_contents m0 w)) (by omega) (Nat.le_of_ble_eq_true rfl) (by omega) (by omega) rfl (Nat.le_of_ble_eq_true rfl) rfl (kI fun r6 h6 n6 e6 => ?_) kN
  obtain ⟨rfl, rfl, rfl⟩ := e6
  refine r_aload0 dX3_crumbsNow_9 ?_
  refine r_callV (M' := mX3_inLoaves) _ dX3_crumbsNow_10 q3600 q3602 qs79 rfl (lw_all_tbl q3603) q138 (by exact pl_X3_inLoaves) gc_X3 (by first | exact m.1 | exact m0.1 | exact m1.1 | exact m2.1 | exact m3.1 | assumption | exact g_us | (rw [g_un (by omega)]; assumption) | (rw [g_un (by omega)]; exact g_us) | (rw [g_un (by omega), g_un (by omega)]; assumption) | (rw [g_un (by omega), g_un (by omega)]; exact g_us) | (rw [g_un (by omega), g_un (by omega), g_un (by omega)]; assumption) | ((repeat (rw [g_un (by omega)])); first | exact m.1 | exact m0.1 | exact m1.1 | exact m2.1 | exact m3.1 | exact g_us | assumption)) ((k_inLoaves m0 w)) (by omega) (Nat.le_of_ble_eq_true rfl) (by omega) (by omega) rfl (Nat.le_of_ble_eq_true rfl) rfl (kI fun r10 h10 n10 e10 => ?_) kN
  obtain ⟨rfl, rfl, rfl⟩ := e10
  refine r_iadd dX3_crumbsNow_13 (by first | exact nI_add _ _ | rfl) ?_
  exact r_ireturn dX3_crumbsNow_14 rfl rfl (⟨mQ.z rfl rfl m0, m0, rfl, t0, rfl⟩)
theorem k_crumbsByAccounts (hb : k_b K ≤ a) (m : mS a V R A h) (w : wB u (R 1)) : g_Met K mX3_crumbsByAccounts 5 0 0 [.ref a] h n (gJ fun r h' n' => r = lN (cts (R 1) + ilv (R 1)) ∧ mS a (vZ V) R A h' ∧ mT a h h' ∧ n' = n) gN := by
  have b := w.b
  have b1 : cts (R 1) ≤ 49995 := cts_b w (Nat.le_refl _)
  have b2 : ilv (R 1) ≤ 79992 * u := ilv_b w (Nat.le_refl _)
  refine g_Met.of (M := mX3_crumbsByAccounts) (L := [some (.ref a)]) (by decide +kernel) (Nat.le_of_ble_eq_true rfl) rfl ?_
  refine r_aload0 dX3_crumbsByAccounts_0 ?_
  refine r_callV (M' := mX3_crumbsNow) _ dX3_crumbsByAccounts_1 q3863 q3856 q3857 rfl (lw_all_tbl q3858) q138 (by exact pl_X3_crumbsNow) gc_X3 (by first | exact m.1 | exact m0.1 | exact m1.1 | exact m2.1 | exact m3.1 | assumption | exact g_us | (rw [g_un (by omega)]; assumption) | (rw [g_un (by omega)]; exact g_us) | (rw [g_un (by omega), g_un (by omega)]; assumption) | (rw [g_un (by omega), g_un (by omega)]; exact g_us) | (rw [g_un (by omega), g_un (by omega), g_un (by omega)]; assumption) | ((repeat (rw [g_un (by omega)])); first | exact m.1 | exact m0.1 | exact m1.1 | exact m2.1 | exact m3.1 | exact g_us | assumption)) ((k_crumbsNow hb m w)) (by omega) (Nat.le_of_ble_eq_true rfl) (by omega) (by omega) rfl (Nat.le_of_ble_eq_true rfl) rfl (kI fun r1 h1 n1 e1 => ?_) kN
  obtain ⟨-, m1, rfl, t1, rfl⟩ := e1
  refine r_i2l dX3_crumbsByAccounts_4 (i2l_nI (by omega)) ?_
  exact r_lreturn dX3_crumbsByAccounts_5 rfl (⟨rfl, m1, t1, rfl⟩)
theorem k_isConsistent (hb : k_b K ≤ a) (m : mS a V R A h) (w : wB u (R 1)) : g_Met K mX3_isConsistent 5 0 0 [.ref a] h n (gI fun r h' n' => r = nB (A 1 6 - A 1 7 - A 1 8 = lN (cts (R 1) + ilv (R 1))) ∧ mS a (vZ V) R A h' ∧ mT a h h' ∧ n' = n) gN := by
  have b := w.b
  have b1 : cts (R 1) ≤ 49995 := cts_b w (Nat.le_refl _)
  have b2 : ilv (R 1) ≤ 79992 * u := ilv_b w (Nat.le_refl _)
  refine g_Met.of (M := mX3_isConsistent) (L := [some (.ref a)]) (by decide +kernel) (Nat.le_of_ble_eq_true rfl) rfl ?_
  refine r_aload0 dX3_isConsistent_0 ?_
  refine r_iconst (v := nI 0) dX3_isConsistent_1 (by decide) ?_
  refine p_X3_1_X3 dX3_isConsistent_2 (by omega) (by first | exact m.1 | exact m0.1 | exact m1.1 | exact m2.1 | exact m3.1 | assumption | exact g_us | (rw [g_un (by omega)]; assumption) | (rw [g_un (by omega)]; exact g_us) | (rw [g_un (by omega), g_un (by omega)]; assumption) | (rw [g_un (by omega), g_un (by omega)]; exact g_us) | (rw [g_un (by omega), g_un (by omega), g_un (by omega)]; assumption) | ((repeat (rw [g_un (by omega)])); first | exact m.1 | exact m0.1 | exact m1.1 | exact m2.1 | exact m3.1 | exact g_us | assumption)) ?_
  refine m.goZ (fun h0 m0 t0 => ?_)
  refine r_aload0 dX3_isConsistent_5 ?_
  refine f_X3_13_X3 dX3_isConsistent_6 (by first | exact m.1 | exact m0.1 | exact m1.1 | exact m2.1 | exact m3.1 | assumption | exact g_us | (rw [g_un (by omega)]; assumption) | (rw [g_un (by omega)]; exact g_us) | (rw [g_un (by omega), g_un (by omega)]; assumption) | (rw [g_un (by omega), g_un (by omega)]; exact g_us) | (rw [g_un (by omega), g_un (by omega), g_un (by omega)]; assumption) | ((repeat (rw [g_un (by omega)])); first | exact m.1 | exact m0.1 | exact m1.1 | exact m2.1 | exact m3.1 | exact g_us | assumption)) ?_
  refine r_bipush (v := nI 6) dX3_isConsistent_9 (by decide) ?_
  refine r_laload (6) dX3_isConsistent_11 m0.w rfl (by omega) (by rw [aL_at (by omega), rw_ac (by decide) (by decide)]) ?_
  refine r_aload0 dX3_isConsistent_12 ?_
  refine f_X3_13_X3 dX3_isConsistent_13 (by first | exact m.1 | exact m0.1 | exact m1.1 | exact m2.1 | exact m3.1 | assumption | exact g_us | (rw [g_un (by omega)]; assumption) | (rw [g_un (by omega)]; exact g_us) | (rw [g_un (by omega), g_un (by omega)]; assumption) | (rw [g_un (by omega), g_un (by omega)]; exact g_us) | (rw [g_un (by omega), g_un (by omega), g_un (by omega)]; assumption) | ((repeat (rw [g_un (by omega)])); first | exact m.1 | exact m0.1 | exact m1.1 | exact m2.1 | exact m3.1 | exact g_us | assumption)) ?_
  refine r_bipush (v := nI 7) dX3_isConsistent_16 (by decide) ?_
  refine r_laload (7) dX3_isConsistent_18 m0.w rfl (by omega) (by rw [aL_at (by omega), rw_ac (by decide) (by decide)]) ?_
  refine r_lsub dX3_isConsistent_19 rfl ?_
  refine r_aload0 dX3_isConsistent_20 ?_
  refine f_X3_13_X3 dX3_isConsistent_21 (by first | exact m.1 | exact m0.1 | exact m1.1 | exact m2.1 | exact m3.1 | assumption | exact g_us | (rw [g_un (by omega)]; assumption) | (rw [g_un (by omega)]; exact g_us) | (rw [g_un (by omega), g_un (by omega)]; assumption) | (rw [g_un (by omega), g_un (by omega)]; exact g_us) | (rw [g_un (by omega), g_un (by omega), g_un (by omega)]; assumption) | ((repeat (rw [g_un (by omega)])); first | exact m.1 | exact m0.1 | exact m1.1 | exact m2.1 | exact m3.1 | exact g_us | assumption)) ?_
  refine r_bipush (v := nI 8) dX3_isConsistent_24 (by decide) ?_
  refine r_laload (8) dX3_isConsistent_26 m0.w rfl (by omega) (by rw [aL_at (by omega), rw_ac (by decide) (by decide)]) ?_
  refine r_lsub dX3_isConsistent_27 rfl ?_
  refine r_aload0 dX3_isConsistent_28 ?_
  refine r_callV (M' := mX3_crumbsNow) _ dX3_isConsistent_29 q3863 q3856 q3857 rfl (lw_all_tbl q3858) q138 (by exact pl_X3_crumbsNow) gc_X3 (by first | exact m.1 | exact m0.1 | exact m1.1 | exact m2.1 | exact m3.1 | assumption | exact g_us | (rw [g_un (by omega)]; assumption) | (rw [g_un (by omega)]; exact g_us) | (rw [g_un (by omega), g_un (by omega)]; assumption) | (rw [g_un (by omega), g_un (by omega)]; exact g_us) | (rw [g_un (by omega), g_un (by omega), g_un (by omega)]; assumption) | ((repeat (rw [g_un (by omega)])); first | exact m.1 | exact m0.1 | exact m1.1 | exact m2.1 | exact m3.1 | exact g_us | assumption)) ((k_crumbsNow hb m0 w)) (by omega) (Nat.le_of_ble_eq_true rfl) (by omega) (by omega) rfl (Nat.le_of_ble_eq_true rfl) rfl (kI fun r29 h29 n29 e29 => ?_) kN
  obtain ⟨-, m1, rfl, t1, rfl⟩ := e29
  refine r_i2l dX3_isConsistent_32 (i2l_nI (by omega)) ?_
  refine r_lcmp dX3_isConsistent_33 rfl ?_
  refine r_if_ne (tgt := 41) dX3_isConsistent_34 (by decide) (fun c34 => ?_) (fun c34 => ?_)
  · refine r_iconst (v := nI 0) dX3_isConsistent_41 (by decide) ?_
    exact r_ireturn dX3_isConsistent_42 rfl (by first | exact nB_nar | rfl) (⟨nB_f (fun z => c34 ((lg_cmp_eq _ _).mpr z)), by rw [vZ_vZ] at m1; exact m1, t0.tr t1, rfl⟩)
  · refine r_iconst (v := nI 1) dX3_isConsistent_37 (by decide) ?_
    refine r_goto (tgt := 42) dX3_isConsistent_38 (by decide) ?_
    exact r_ireturn dX3_isConsistent_42 rfl (by first | exact nB_nar | rfl) (⟨nB_t ((lg_cmp_eq _ _).mp c34), by rw [vZ_vZ] at m1; exact m1, t0.tr t1, rfl⟩)
end
