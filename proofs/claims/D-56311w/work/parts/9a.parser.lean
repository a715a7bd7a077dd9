/-! the parser's smallest methods -/
set_option maxRecDepth 100000
abbrev prO (a i : Nat) : g_C := g_ob 13 [.ref a, .int (nI i)]
abbrev snX (W : c_W) (i : Nat) : g_C := g_ob 14 [.null, c_U W, c_V W, .null, .null, .int (nI 0), .int (nI i)]
/-- the parser p stands at the place i of the text t -/
def psP (p a b i : Nat) (t : List Nat) (h : g_P) : Prop := h p = some (prO a i) ∧ strT a b t h ∧ i ≤ t.length ∧ t.length ≤ 60
theorem psP.ne {p a b i : Nat} {t : List Nat} {h : g_P} (s : psP p a b i t h) : a ≠ p ∧ b ≠ p := by
  obtain ⟨s1, ⟨⟨x, y, s2⟩, s3, -⟩, -⟩ := s
  refine ⟨fun z => ?_, fun z => ?_⟩
  · rw [z, s1] at s2; exact absurd (obj_inj s2) (by decide)
  · rw [z, s1] at s3; exact obj_arr s3
theorem psP.mv {p a b i j : Nat} {t : List Nat} {h : g_P} (s : psP p a b i t h) (hj : j ≤ t.length) : psP p a b j t (g_up h p (prO a j)) := by
  have s0 := s.ne
  obtain ⟨s1, s2, s3, s4⟩ := s
  exact ⟨g_us, s2.of (g_un s0.1) (g_un s0.2), hj, s4⟩
/-- a syntax failure at the place j has been thrown -/
def sfX (W : c_W) (p : Nat) (h : g_P) (n g j q : Nat) (h' : g_P) (n' : Nat) : Prop := n ≤ q ∧ q < n' ∧ n' ≤ n + g ∧ h' q = some (snX W j) ∧ ∀ z : Nat, z < n → z ≠ p → h' z = h z
theorem sfX.mv {W : c_W} {p n g j q n' : Nat} {h h' : g_P} {c : g_C} (s : sfX W p (g_up h p c) n g j q h' n') : sfX W p h n g j q h' n' := by
  obtain ⟨s1, s2, s3, s4, s5⟩ := s
  exact ⟨s1, s2, s3, s4, fun z h1 h2 => by rw [s5 z h1 h2, g_un h2]⟩
/-- the sign at the place i -/
def cur (t : List Nat) (i : Nat) : Nat := if i < t.length then t.getD i 0 else 10
theorem cur_c {t : List Nat} {i k : Nat} (hk : k ≠ 10) : cur t i = k ↔ isC t i k := by
  unfold cur isC
  split
  · exact ⟨fun z => ⟨by assumption, z⟩, fun z => z.2⟩
  · exact ⟨fun z => absurd z.symm hk, fun z => absurd z.1 (by assumption)⟩
theorem cur_d {t : List Nat} {i : Nat} : (48 ≤ cur t i ∧ cur t i ≤ 57) ↔ isD t i := by
  unfold cur isD
  split
  · exact ⟨fun z => ⟨by assumption, z⟩, fun z => z.2⟩
  · exact ⟨fun z => absurd z.1 (by decide), fun z => absurd z.1 (by assumption)⟩
theorem cur_l {t : List Nat} {i : Nat} (h : ∀ c ∈ t, c < 128) : cur t i < 128 := by
  unfold cur
  split
  · exact getD_lt h
  · decide
section
variable {K : g_K} {W : c_W} {p a b i n : Nat} {t : List Nat} {h : g_P}
theorem k_X16_init {j s : Nat} (w0 : cOK K W) (hb : k_b K ≤ s) {v9 : Value} (ho : h s = some (g_ob 14 [.null, .null, .null, .null, .null, .int (nI 0), v9])) : g_Met K mX16_init 6 0 0 [.ref s, .int (nI j)] h n (gV fun h' n' => h' = g_up h s (snX W j) ∧ n' = n) gN := by
  refine g_Met.of (M := mX16_init) (L := [some (.ref s), some (.int (nI j))]) (by decide +kernel) (Nat.le_of_ble_eq_true rfl) rfl ?_
  refine r_aload0 dX16_init_0 ?_
  refine r_null dX16_init_1 ?_
  refine r_callI (M' := mX4_init) _ dX16_init_2 q3062 q2170 rfl rfl rfl (lw_all_tbl q2171) q141 (by exact pl_X4_init)  ((k_X4_init_X16 w0 hb ho)) (by omega) (Nat.le_of_ble_eq_true rfl) (by omega) (by omega) rfl (Nat.le_of_ble_eq_true rfl) rfl (kV fun h2 n2 e2 => ?_) kN
  obtain ⟨q8, q7⟩ := e2; have q8 := q8.symm; have q7 := q7.symm; subst q8; subst q7
  refine r_aload0 dX16_init_5 ?_
  refine r_iload1 dX16_init_6 ?_
  refine p_X16_7_X16 dX16_init_7 (by omega) g_us ?_
  exact r_return dX16_init_10 rfl (⟨by rw [g_up_up], rfl⟩)
theorem k_cur (w0 : cOK K W) (wF : cF K) (s : psP p a b i t h) : g_Met K mX15_current 4 0 0 [.ref p] h n (gI fun r h' n' => r = nI (cur t i) ∧ h' = h ∧ n' = n) gN := by
  obtain ⟨s1, s2, s3, s4⟩ := s
  obtain ⟨⟨x, y, s5⟩, s6, s7⟩ := id s2
  refine g_Met.of (M := mX15_current) (L := [some (.ref p)]) (by decide +kernel) (Nat.le_of_ble_eq_true rfl) rfl ?_
  refine r_aload0 dX15_current_0 ?_
  refine f_X15_13_X15 dX15_current_1 s1 ?_
  refine r_aload0 dX15_current_4 ?_
  refine f_X15_7_X15 dX15_current_5 s1 ?_
  refine r_callV (M' := mJ9_length) _ dX15_current_8 q3000 q631 q632 rfl (lw_all_tbl q633) q136 (by exact pl_J9_length) gc_J9 s5 ((k_strLen w0 s2 (by omega))) (by omega) (Nat.le_of_ble_eq_true rfl) (by omega) (by omega) rfl (Nat.le_of_ble_eq_true rfl) rfl (kI fun r8 h8 n8 e8 => ?_) kN
  obtain ⟨q9, q8, q7⟩ := e8; have q9 := q9.symm; have q8 := q8.symm; have q7 := q7.symm; subst q9; subst q8; subst q7
  refine r_icmp_geN (tgt := 28) dX15_current_11 (by decide) (by omega) (by omega) (fun c11 => ?_) (fun c11 => ?_)
  · refine r_bipush (v := nI 10) dX15_current_28 (by decide) ?_
    exact r_ireturn dX15_current_30 rfl rfl ⟨by unfold cur; rw [if_neg (by omega)], rfl, rfl⟩
  · refine r_aload0 dX15_current_14 ?_
    refine f_X15_7_X15 dX15_current_15 s1 ?_
    refine r_aload0 dX15_current_18 ?_
    refine f_X15_13_X15 dX15_current_19 s1 ?_
    refine r_callV (M' := mJ9_charAt) _ dX15_current_22 q3001 q2930 q2931 rfl (lw_all_tbl q2932) q136 (by exact pl_J9_charAt) gc_J9 s5 ((k_charAt w0 wF s2 (by omega) (by omega))) (by omega) (Nat.le_of_ble_eq_true rfl) (by omega) (by omega) rfl (Nat.le_of_ble_eq_true rfl) rfl (kI fun r22 h22 n22 e22 => ?_) kN
    obtain ⟨q9, q8, q7⟩ := e22; have q9 := q9.symm; have q8 := q8.symm; have q7 := q7.symm; subst q9; subst q8; subst q7
    refine r_goto (tgt := 30) dX15_current_25 (by decide) ?_
    exact r_ireturn dX15_current_30 rfl (char_nar (getD_lt s7)) ⟨by unfold cur; rw [if_pos (by omega)], rfl, rfl⟩
theorem k_require {q : Prop} [Decidable q] (w0 : cOK K W) (s : psP p a b i t h) : g_Met K mX15_require 7 1 7 [.ref p, .int (nB q)] h n (gV fun h' n' => q ∧ h' = h ∧ n' = n) (fun q' h' n' => ¬ q ∧ sfX W p h n 1 i q' h' n') := by
  refine g_Met.facts fun f1 f2 f3 => ?_
  obtain ⟨s1, s2, s3, s4⟩ := s
  have pn := f2 _ _ s1
  refine g_Met.of (M := mX15_require) (L := [some (.ref p), some (.int (nB q))]) (by decide +kernel) (Nat.le_of_ble_eq_true rfl) rfl ?_
  refine r_iload1 dX15_require_0 ?_
  refine r_if_neB (tgt := 16) dX15_require_1 (by decide) (fun c1 => ?_) (fun c1 => ?_)
  · exact r_return dX15_require_16 rfl (⟨c1, rfl, rfl⟩)
  · refine n_X15_27 dX15_require_4 (by omega) (by omega) ?_
    refine r_dup dX15_require_7 ?_
    refine r_aload0 dX15_require_8 ?_
    refine f_X15_13_X15 dX15_require_9 (by rw [g_un (by omega)]; exact s1) ?_
    refine r_callI (M' := mX16_init) _ dX15_require_12 q3059 q3060 rfl rfl rfl (lw_all_tbl q3061) q190 (by exact pl_X16_init)  ((k_X16_init w0 f1 g_us)) (by omega) (Nat.le_of_ble_eq_true rfl) (by omega) (by omega) rfl (Nat.le_of_ble_eq_true rfl) rfl (kV fun h12 n12 e12 => ?_) kN
    obtain ⟨q8, q7⟩ := e12; have q8 := q8.symm; have q7 := q7.symm; subst q8; subst q7
    refine r_athrow dX15_require_15 ?_
    exact r_out (by intro x hx; cases hx) ⟨c1, Nat.le_refl _, Nat.lt_succ_self _, Nat.le_refl _, by rw [g_us], fun z h1 h2 => by rw [g_un (by omega), g_un (by omega)]⟩
theorem k_taken {q : Prop} [Decidable q] (w0 : cOK K W) (wF : cF K) (hb : k_b K ≤ p) (s : psP p a b i t h) (hq : q → i < t.length) : g_Met K mX15_taken 8 1 7 [.ref p, .int (nB q)] h n (gI fun r h' n' => q ∧ r = nI (t.getD i 0) ∧ h' = g_up h p (prO a (i + 1)) ∧ n' = n) (fun q' h' n' => ¬ q ∧ sfX W p h n 1 i q' h' n') := by
  obtain ⟨s1, s2, s3, s4⟩ := id s
  refine g_Met.of (M := mX15_taken) (L := [some (.ref p), some (.int (nB q))]) (by decide +kernel) (Nat.le_of_ble_eq_true rfl) rfl ?_
  refine r_aload0 dX15_taken_0 ?_
  refine r_iload1 dX15_taken_1 ?_
  refine r_callV (M' := mX15_require) _ dX15_taken_2 q3046 q3048 qs46 rfl (lw_all_tbl q3049) q189 (by exact pl_X15_require) gc_X15 s1 ((k_require w0 s)) (by omega) (Nat.le_of_ble_eq_true rfl) (by omega) (by omega) rfl (Nat.le_of_ble_eq_true rfl) rfl (kV fun h2 n2 e2 => ?_) (fun q h' n' hx => r_out (by intro x hx; cases hx) hx)
  obtain ⟨z, q8, q7⟩ := e2; have q8 := q8.symm; have q7 := q7.symm; subst q8; subst q7
  have sm := s.mv (j := i + 1) (hq z)
  obtain ⟨u1, u2, u3, u4⟩ := id sm
  obtain ⟨⟨x, y, u5⟩, u6, u7⟩ := id u2
  refine r_aload0 dX15_taken_5 ?_
  refine r_dup dX15_taken_6 ?_
  refine f_X15_13_X15 dX15_taken_7 s1 ?_
  refine r_iconst (v := nI 1) dX15_taken_10 (by decide) ?_
  refine r_iadd dX15_taken_11 (nI_add _ _) ?_
  refine p_X15_13_X15 dX15_taken_12 (by omega) s1 ?_
  refine r_aload0 dX15_taken_15 ?_
  refine f_X15_7_X15 dX15_taken_16 u1 ?_
  refine r_aload0 dX15_taken_19 ?_
  refine f_X15_13_X15 dX15_taken_20 u1 ?_
  refine r_iconst (v := nI 1) dX15_taken_23 (by decide) ?_
  refine r_isub dX15_taken_24 (show _ = nI i by rw [pk_sub (by omega), Nat.add_sub_cancel]) ?_
  refine r_callV (M' := mJ9_charAt) _ dX15_taken_25 q3001 q2930 q2931 rfl (lw_all_tbl q2932) q136 (by exact pl_J9_charAt) gc_J9 u5 ((k_charAt w0 wF u2 (hq z) (by omega))) (by omega) (Nat.le_of_ble_eq_true rfl) (by omega) (by omega) rfl (Nat.le_of_ble_eq_true rfl) rfl (kI fun r25 h25 n25 e25 => ?_) kN
  obtain ⟨q9, q8, q7⟩ := e25; have q9 := q9.symm; have q8 := q8.symm; have q7 := q7.symm; subst q9; subst q8; subst q7
  exact r_ireturn dX15_taken_28 rfl (char_nar (getD_lt u7)) ⟨z, rfl, rfl, rfl⟩
theorem k_isAtDigit (w0 : cOK K W) (wF : cF K) (s : psP p a b i t h) : g_Met K mX15_isAtDigit 5 0 0 [.ref p] h n (gI fun r h' n' => r = nB (isD t i) ∧ h' = h ∧ n' = n) gN := by
  obtain ⟨s1, s2, s3, s4⟩ := id s
  have cl := cur_l (i := i) s2.2.2
  refine g_Met.of (M := mX15_isAtDigit) (L := [some (.ref p)]) (by decide +kernel) (Nat.le_of_ble_eq_true rfl) rfl ?_
  refine r_aload0 dX15_isAtDigit_0 ?_
  refine r_callV (M' := mX15_current) _ dX15_isAtDigit_1 q2996 q2998 qs45 rfl (lw_all_tbl q2999) q189 (by exact pl_X15_current) gc_X15 s1 ((k_cur w0 wF s)) (by omega) (Nat.le_of_ble_eq_true rfl) (by omega) (by omega) rfl (Nat.le_of_ble_eq_true rfl) rfl (kI fun r1 h1 n1 e1 => ?_) kN
  obtain ⟨q9, q8, q7⟩ := e1; have q9 := q9.symm; have q8 := q8.symm; have q7 := q7.symm; subst q9; subst q8; subst q7
  refine r_bipush (v := nI 48) dX15_isAtDigit_4 (by decide) ?_
  refine r_icmp_ltN (tgt := 22) dX15_isAtDigit_6 (by decide) (by omega) (by omega) (fun c6 => ?_) (fun c6 => ?_)
  · refine r_iconst (v := nI 0) dX15_isAtDigit_22 (by decide) ?_
    exact r_ireturn dX15_isAtDigit_23 rfl (by first | exact nB_nar | rfl) (⟨nB_f (fun z => by have := cur_d.mpr z; omega), rfl, rfl⟩)
  · refine r_aload0 dX15_isAtDigit_9 ?_
    refine r_callV (M' := mX15_current) _ dX15_isAtDigit_10 q2996 q2998 qs45 rfl (lw_all_tbl q2999) q189 (by exact pl_X15_current) gc_X15 s1 ((k_cur w0 wF s)) (by omega) (Nat.le_of_ble_eq_true rfl) (by omega) (by omega) rfl (Nat.le_of_ble_eq_true rfl) rfl (kI fun r10 h10 n10 e10 => ?_) kN
    obtain ⟨q9, q8, q7⟩ := e10; have q9 := q9.symm; have q8 := q8.symm; have q7 := q7.symm; subst q9; subst q8; subst q7
    refine r_bipush (v := nI 57) dX15_isAtDigit_13 (by decide) ?_
    refine r_icmp_gtN (tgt := 22) dX15_isAtDigit_15 (by decide) (by omega) (by omega) (fun c15 => ?_) (fun c15 => ?_)
    · refine r_iconst (v := nI 0) dX15_isAtDigit_22 (by decide) ?_
      exact r_ireturn dX15_isAtDigit_23 rfl (by first | exact nB_nar | rfl) (⟨nB_f (fun z => by have := cur_d.mpr z; omega), rfl, rfl⟩)
    · refine r_iconst (v := nI 1) dX15_isAtDigit_18 (by decide) ?_
      refine r_goto (tgt := 23) dX15_isAtDigit_19 (by decide) ?_
      exact r_ireturn dX15_isAtDigit_23 rfl (by first | exact nB_nar | rfl) (⟨nB_t (cur_d.mp (by omega)), rfl, rfl⟩)
theorem k_digit (w0 : cOK K W) (wF : cF K) (hb : k_b K ≤ p) (s : psP p a b i t h) : g_Met K mX15_digit 9 1 7 [.ref p] h n (gI fun r h' n' => isD t i ∧ r = nI (t.getD i 0 - 48) ∧ h' = g_up h p (prO a (i + 1)) ∧ n' = n) (fun q' h' n' => ¬ isD t i ∧ sfX W p h n 1 i q' h' n') := by
  obtain ⟨s1, s2, s3, s4⟩ := id s
  refine g_Met.of (M := mX15_digit) (L := [some (.ref p)]) (by decide +kernel) (Nat.le_of_ble_eq_true rfl) rfl ?_
  refine r_aload0 dX15_digit_0 ?_
  refine r_aload0 dX15_digit_1 ?_
  refine r_callV (M' := mX15_isAtDigit) _ dX15_digit_2 q3151 q3153 qs50 rfl (lw_all_tbl q3154) q189 (by exact pl_X15_isAtDigit) gc_X15 s1 ((k_isAtDigit w0 wF s)) (by omega) (Nat.le_of_ble_eq_true rfl) (by omega) (by omega) rfl (Nat.le_of_ble_eq_true rfl) rfl (kI fun r2 h2 n2 e2 => ?_) kN
  obtain ⟨q9, q8, q7⟩ := e2; have q9 := q9.symm; have q8 := q8.symm; have q7 := q7.symm; subst q9; subst q8; subst q7
  refine r_callV (M' := mX15_taken) _ dX15_digit_5 q3143 q3145 qs48 rfl (lw_all_tbl q3146) q189 (by exact pl_X15_taken) gc_X15 s1 ((k_taken w0 wF hb s (fun z => z.1))) (by omega) (Nat.le_of_ble_eq_true rfl) (by omega) (by omega) rfl (Nat.le_of_ble_eq_true rfl) rfl (kI fun r5 h5 n5 e5 => ?_) (fun q h' n' hx => r_out (by intro x hx; cases hx) hx)
  obtain ⟨z, rfl, rfl, rfl⟩ := e5
  refine r_bipush (v := nI 48) dX15_digit_8 (by decide) ?_
  refine r_isub dX15_digit_10 (pk_sub z.2.1) ?_
  exact r_ireturn dX15_digit_11 rfl rfl (⟨z, rfl, rfl, rfl⟩)
theorem k_digitAfterSpace (w0 : cOK K W) (wF : cF K) (hb : k_b K ≤ p) (s : psP p a b i t h) : g_Met K mX15_digitAfterSpace 10 2 14 [.ref p] h n (gI fun r h' n' => isC t i 32 ∧ isD t (i + 1) ∧ r = nI (t.getD (i + 1) 0 - 48) ∧ h' = g_up h p (prO a (i + 2)) ∧ n' = n) (fun q' h' n' => (¬ isC t i 32 ∧ sfX W p h n 1 i q' h' n') ∨ (isC t i 32 ∧ ¬ isD t (i + 1) ∧ sfX W p h n 1 (i + 1) q' h' n')) := by
  obtain ⟨s1, s2, s3, s4⟩ := id s
  have cl := cur_l (i := i) s2.2.2
  have tail : isC t i 32 → g_G K mX15_digitAfterSpace 10 1 7 (gI fun r h' n' => isC t i 32 ∧ isD t (i + 1) ∧ r = nI (t.getD (i + 1) 0 - 48) ∧ h' = g_up h p (prO a (i + 2)) ∧ n' = n) (fun q' h' n' => (¬ isC t i 32 ∧ sfX W p h n 1 i q' h' n') ∨ (isC t i 32 ∧ ¬ isD t (i + 1) ∧ sfX W p h n 1 (i + 1) q' h' n')) 19 [some (.ref p)] [] (g_up h p (prO a (i + 1))) n := by
    intro z
    have sm := s.mv (j := i + 1) z.1
    refine r_aload0 dX15_digitAfterSpace_19 ?_
    refine r_callV (M' := mX15_digit) _ dX15_digitAfterSpace_20 q3147 q3149 qs49 rfl (lw_all_tbl q3150) q189 (by exact pl_X15_digit) gc_X15 g_us ((k_digit w0 wF hb sm)) (by omega) (Nat.le_of_ble_eq_true rfl) (by omega) (by omega) rfl (Nat.le_of_ble_eq_true rfl) rfl (kI fun r20 h20 n20 e20 => ?_) (fun q h' n' hx => r_out (by intro x hx; cases hx) (Or.inr ⟨z, hx.1, hx.2.mv⟩))
    obtain ⟨z2, rfl, rfl, rfl⟩ := e20
    exact r_ireturn dX15_digitAfterSpace_23 rfl rfl (⟨z, z2, rfl, by rw [g_up_up], rfl⟩)
  refine g_Met.of (M := mX15_digitAfterSpace) (L := [some (.ref p)]) (by decide +kernel) (Nat.le_of_ble_eq_true rfl) rfl ?_
  refine r_aload0 dX15_digitAfterSpace_0 ?_
  refine r_aload0 dX15_digitAfterSpace_1 ?_
  refine r_callV (M' := mX15_current) _ dX15_digitAfterSpace_2 q2996 q2998 qs45 rfl (lw_all_tbl q2999) q189 (by exact pl_X15_current) gc_X15 s1 ((k_cur w0 wF s)) (by omega) (Nat.le_of_ble_eq_true rfl) (by omega) (by omega) rfl (Nat.le_of_ble_eq_true rfl) rfl (kI fun r2 h2 n2 e2 => ?_) kN
  obtain ⟨q9, q8, q7⟩ := e2; have q9 := q9.symm; have q8 := q8.symm; have q7 := q7.symm; subst q9; subst q8; subst q7
  refine r_bipush (v := nI 32) dX15_digitAfterSpace_5 (by decide) ?_
  refine r_icmp_neN (tgt := 14) dX15_digitAfterSpace_7 (by decide) (by omega) (by omega) (fun c7 => ?_) (fun c7 => ?_)
  · refine r_iconst (v := nI 0) dX15_digitAfterSpace_14 (by decide) ?_
    refine g_st (st' := [.int (nB (isC t i 32)), .ref p]) (by rw [← nB_f (p := isC t i 32) (fun z => c7 ((cur_c (by decide)).mpr z))]) ?_
    refine r_callV (M' := mX15_taken) _ dX15_digitAfterSpace_15 q3143 q3145 qs48 rfl (lw_all_tbl q3146) q189 (by exact pl_X15_taken) gc_X15 s1 ((k_taken w0 wF hb s (fun z => z.1))) (by omega) (Nat.le_of_ble_eq_true rfl) (by omega) (by omega) rfl (Nat.le_of_ble_eq_true rfl) rfl (kI fun r15 h15 n15 e15 => ?_) (fun q h' n' hx => r_out (by intro x hx; cases hx) (Or.inl hx))
    obtain ⟨z, rfl, rfl, rfl⟩ := e15
    refine r_pop dX15_digitAfterSpace_18 ?_
    exact tail z
  · refine r_iconst (v := nI 1) dX15_digitAfterSpace_10 (by decide) ?_
    refine r_goto (tgt := 15) dX15_digitAfterSpace_11 (by decide) ?_
    refine g_st (st' := [.int (nB (isC t i 32)), .ref p]) (by rw [← nB_t (p := isC t i 32) ((cur_c (by decide)).mp c7)]) ?_
    refine r_callV (M' := mX15_taken) _ dX15_digitAfterSpace_15 q3143 q3145 qs48 rfl (lw_all_tbl q3146) q189 (by exact pl_X15_taken) gc_X15 s1 ((k_taken w0 wF hb s (fun z => z.1))) (by omega) (Nat.le_of_ble_eq_true rfl) (by omega) (by omega) rfl (Nat.le_of_ble_eq_true rfl) rfl (kI fun r15 h15 n15 e15 => ?_) (fun q h' n' hx => r_out (by intro x hx; cases hx) (Or.inl hx))
    obtain ⟨z, rfl, rfl, rfl⟩ := e15
    refine r_pop dX15_digitAfterSpace_18 ?_
    exact tail z
theorem k_numberAfter {c : Nat} (w0 : cOK K W) (wF : cF K) (hb : k_b K ≤ p) (s : psP p a b i t h) (hc : c = 32 ∨ c = 47) : g_Met K mX15_numberAfter 10 5 35 [.ref p, .int (nI c)] h n (gI fun r h' n' => isC t i c ∧ isD t (i + 1) ∧ r = nI (nuR t (i + 2) (t.getD (i + 1) 0 - 48) 3).2 ∧ h' = g_up h p (prO a (nuR t (i + 2) (t.getD (i + 1) 0 - 48) 3).1) ∧ n' = n) (fun q' h' n' => (¬ isC t i c ∧ sfX W p h n 1 i q' h' n') ∨ (isC t i c ∧ ¬ isD t (i + 1) ∧ sfX W p h n 1 (i + 1) q' h' n')) := by
  obtain ⟨s1, s2, s3, s4⟩ := id s
  have cl := cur_l (i := i) s2.2.2
  have loop : isC t i c → isD t (i + 1) → ∀ (g k j v : Nat) (h1 : g_P), k + g = 4 → 1 ≤ k → v < 10 ^ k → psP p a b j t h1 → h1 = g_up h p (prO a j) → nuR t (i + 2) (t.getD (i + 1) 0 - 48) 3 = nuR t j v g → g_G K mX15_numberAfter 10 g (7 * g) (gI fun r h' n' => isC t i c ∧ isD t (i + 1) ∧ r = nI (nuR t (i + 2) (t.getD (i + 1) 0 - 48) 3).2 ∧ h' = g_up h p (prO a (nuR t (i + 2) (t.getD (i + 1) 0 - 48) 3).1) ∧ n' = n) (fun q' h' n' => (¬ isC t i c ∧ sfX W p h n 1 i q' h' n') ∨ (isC t i c ∧ ¬ isD t (i + 1) ∧ sfX W p h n 1 (i + 1) q' h' n')) 25 [some (.ref p), some (.int (nI c)), some (.int (nI v)), some (.int (nI k))] [] h1 n := by
    intro z1 z2 g
    induction g with
    | zero =>
      intro k j v h1 hk k1 hv sj e1 en
      refine r_iload3 dX15_numberAfter_25 ?_
      refine r_iconst (v := nI 4) dX15_numberAfter_26 (by decide) ?_
      refine r_icmp_geN (tgt := 53) dX15_numberAfter_27 (by decide) (by omega) (by omega) (fun c27 => ?_) (fun c27 => absurd c27 (by omega))
      refine r_iload2 dX15_numberAfter_53 ?_
      exact r_ireturn dX15_numberAfter_54 rfl rfl (⟨z1, z2, by rw [en]; rfl, by rw [en]; exact e1, rfl⟩)
    | succ g ih =>
      intro k j v h1 hk k1 hv sj e1 en
      have p9 : 10 ^ k ≤ 10 ^ 3 := Nat.pow_le_pow_right (by omega) (by omega)
      obtain ⟨u1, u2, u3, u4⟩ := id sj
      have gl := getD_lt (j := j) u2.2.2
      refine r_iload3 dX15_numberAfter_25 ?_
      refine r_iconst (v := nI 4) dX15_numberAfter_26 (by decide) ?_
      refine r_icmp_geN (tgt := 53) dX15_numberAfter_27 (by decide) (by omega) (by omega) (fun c27 => absurd c27 (by omega)) (fun c27 => ?_)
      refine r_aload0 dX15_numberAfter_30 ?_
      refine r_callV (M' := mX15_isAtDigit) _ dX15_numberAfter_31 q3151 q3153 qs50 rfl (lw_all_tbl q3154) q189 (by exact pl_X15_isAtDigit) gc_X15 u1 ((k_isAtDigit w0 wF sj)) (by omega) (Nat.le_of_ble_eq_true rfl) (by omega) (by omega) rfl (Nat.le_of_ble_eq_true rfl) rfl (kI fun r31 h31 n31 e31 => ?_) kN
      obtain ⟨q9, q8, q7⟩ := e31; have q9 := q9.symm; have q8 := q8.symm; have q7 := q7.symm; subst q9; subst q8; subst q7
      refine r_if_eqB (tgt := 53) dX15_numberAfter_34 (by decide) (fun c34 => ?_) (fun c34 => ?_)
      · refine r_iload2 dX15_numberAfter_53 ?_
        exact r_ireturn dX15_numberAfter_54 rfl rfl (⟨z1, z2, by rw [en, nuR_n c34], by rw [en, nuR_n c34]; exact e1, rfl⟩)
      · refine r_bipush (v := nI 10) dX15_numberAfter_37 (by decide) ?_
        refine r_iload2 dX15_numberAfter_39 ?_
        refine r_imul dX15_numberAfter_40 (pk_mul _ _) ?_
        refine r_aload0 dX15_numberAfter_41 ?_
        refine r_callV (M' := mX15_digit) _ dX15_numberAfter_42 q3147 q3149 qs49 rfl (lw_all_tbl q3150) q189 (by exact pl_X15_digit) gc_X15 u1 ((k_digit w0 wF hb sj)) (by omega) (Nat.le_of_ble_eq_true rfl) (by omega) (by omega) rfl (Nat.le_of_ble_eq_true rfl) rfl (kI fun r42 h42 n42 e42 => ?_) (fun q h' n' hx => absurd c34 hx.1)
        obtain ⟨z3, rfl, rfl, rfl⟩ := e42
        refine r_iadd dX15_numberAfter_45 (nI_add _ _) ?_
        refine r_istore2 dX15_numberAfter_46 ?_
        refine r_iinc3 dX15_numberAfter_47 (ii1 _) ?_
        refine r_goto (tgt := 25) dX15_numberAfter_50 (by decide) ?_
        refine ih (k + 1) (j + 1) (10 * v + (t.getD j 0 - 48)) _ (by omega) (by omega) ?_ (sj.mv z3.1) (by rw [e1, g_up_up]) (by rw [en, nuR_y z3])
        have z4 := z3.2.2
        rw [Nat.pow_succ]
        omega
  have tail : isC t i c → g_G K mX15_numberAfter 10 4 28 (gI fun r h' n' => isC t i c ∧ isD t (i + 1) ∧ r = nI (nuR t (i + 2) (t.getD (i + 1) 0 - 48) 3).2 ∧ h' = g_up h p (prO a (nuR t (i + 2) (t.getD (i + 1) 0 - 48) 3).1) ∧ n' = n) (fun q' h' n' => (¬ isC t i c ∧ sfX W p h n 1 i q' h' n') ∨ (isC t i c ∧ ¬ isD t (i + 1) ∧ sfX W p h n 1 (i + 1) q' h' n')) 18 [some (.ref p), some (.int (nI c)), none, none] [] (g_up h p (prO a (i + 1))) n := by
    intro z
    have sm := s.mv (j := i + 1) z.1
    refine r_aload0 dX15_numberAfter_18 ?_
    refine r_callV (M' := mX15_digit) _ dX15_numberAfter_19 q3147 q3149 qs49 rfl (lw_all_tbl q3150) q189 (by exact pl_X15_digit) gc_X15 g_us ((k_digit w0 wF hb sm)) (by omega) (Nat.le_of_ble_eq_true rfl) (by omega) (by omega) rfl (Nat.le_of_ble_eq_true rfl) rfl (kI fun r19 h19 n19 e19 => ?_) (fun q h' n' hx => r_out (by intro x hx; cases hx) (Or.inr ⟨z, hx.1, hx.2.mv⟩))
    obtain ⟨z2, rfl, rfl, rfl⟩ := e19
    refine r_istore2 dX15_numberAfter_22 ?_
    refine r_iconst (v := nI 1) dX15_numberAfter_23 (by decide) ?_
    refine r_istore3 dX15_numberAfter_24 ?_
    exact loop z z2 3 1 (i + 2) _ _ (by omega) (Nat.le_refl _) (by have := z2.2.2; omega) (sm.mv z2.1) (by rw [g_up_up]) rfl
  refine g_Met.of (M := mX15_numberAfter) (L := [some (.ref p), some (.int (nI c)), none, none]) (by decide +kernel) (Nat.le_of_ble_eq_true rfl) rfl ?_
  refine r_aload0 dX15_numberAfter_0 ?_
  refine r_aload0 dX15_numberAfter_1 ?_
  refine r_callV (M' := mX15_current) _ dX15_numberAfter_2 q2996 q2998 qs45 rfl (lw_all_tbl q2999) q189 (by exact pl_X15_current) gc_X15 s1 ((k_cur w0 wF s)) (by omega) (Nat.le_of_ble_eq_true rfl) (by omega) (by omega) rfl (Nat.le_of_ble_eq_true rfl) rfl (kI fun r2 h2 n2 e2 => ?_) kN
  obtain ⟨q9, q8, q7⟩ := e2; have q9 := q9.symm; have q8 := q8.symm; have q7 := q7.symm; subst q9; subst q8; subst q7
  refine r_iload1 dX15_numberAfter_5 ?_
  refine r_icmp_neN (tgt := 13) dX15_numberAfter_6 (by decide) (by omega) (by omega) (fun c6 => ?_) (fun c6 => ?_)
  · refine r_iconst (v := nI 0) dX15_numberAfter_13 (by decide) ?_
    refine g_st (st' := [.int (nB (isC t i c)), .ref p]) (by rw [← nB_f (p := isC t i c) (fun z => c6 ((cur_c (by omega)).mpr z))]) ?_
    refine r_callV (M' := mX15_taken) _ dX15_numberAfter_14 q3143 q3145 qs48 rfl (lw_all_tbl q3146) q189 (by exact pl_X15_taken) gc_X15 s1 ((k_taken w0 wF hb s (fun z => z.1))) (by omega) (Nat.le_of_ble_eq_true rfl) (by omega) (by omega) rfl (Nat.le_of_ble_eq_true rfl) rfl (kI fun r14 h14 n14 e14 => ?_) (fun q h' n' hx => r_out (by intro x hx; cases hx) (Or.inl hx))
    obtain ⟨z, rfl, rfl, rfl⟩ := e14
    refine r_pop dX15_numberAfter_17 ?_
    exact tail z
  · refine r_iconst (v := nI 1) dX15_numberAfter_9 (by decide) ?_
    refine r_goto (tgt := 14) dX15_numberAfter_10 (by decide) ?_
    refine g_st (st' := [.int (nB (isC t i c)), .ref p]) (by rw [← nB_t (p := isC t i c) ((cur_c (by omega)).mp c6)]) ?_
    refine r_callV (M' := mX15_taken) _ dX15_numberAfter_14 q3143 q3145 qs48 rfl (lw_all_tbl q3146) q189 (by exact pl_X15_taken) gc_X15 s1 ((k_taken w0 wF hb s (fun z => z.1))) (by omega) (Nat.le_of_ble_eq_true rfl) (by omega) (by omega) rfl (Nat.le_of_ble_eq_true rfl) rfl (kI fun r14 h14 n14 e14 => ?_) (fun q h' n' hx => r_out (by intro x hx; cases hx) (Or.inl hx))
    obtain ⟨z, rfl, rfl, rfl⟩ := e14
    refine r_pop dX15_numberAfter_17 ?_
    exact tail z
end
