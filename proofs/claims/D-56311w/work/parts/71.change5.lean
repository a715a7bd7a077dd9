/-! addDough, mix -/
set_option maxRecDepth 100000
section
variable {K : g_K} {W : c_W} {A : Nat → Nat} {lo hi b t l e n u : Nat} {ρ ρ' : Nat → Nat} {α : Nat → Int64} {h h' : g_P}
theorem k_addDough2 (w0 : cOK K W) (k : bk K W lo n b ρ α h) (w : wB u ρ) {p p2 : Int32} : g_Met K mX2_addDough 148 4 24 [.ref b, .int p, .int p2] h n (muP K W lo b h n 2 (eAd ρ p p2) (nI (ρ 0)) (mkD ρ (tN p) (tN p2)) α) (muX W [97, 115] h n (eAd ρ p p2)) := by
  refine g_Met.facts fun f1 f2 f3 => ?_
  have wb := w.b
  obtain ⟨k1, k2, k3, t, lb, eb, ll, el, k4, k5, k6, k7, k8⟩ := k
  have k50 := k5
  obtain ⟨y1, N, F, mc, nk, T, y2⟩ := k50
  have T1 := T.1
  obtain ⟨tt, hm, -⟩ := T1
  have hs := k_J1_size (n := n) T
  rw [dlist_len] at hs
  have hv : (nI 0 ≤ p ∧ p ≤ nI 9999) ↔ bt p 0 9999 := bt_iff (by omega) (by omega)
  have hv2 : (nI 1 ≤ p2 ∧ p2 ≤ nI 12) ↔ bt p2 1 12 := bt_iff (by omega) (by omega)
  refine g_Met.of (M := mX2_addDough) (L := [some (.ref b), some (.int p), some (.int p2), none]) (by decide +kernel) (Nat.le_of_ble_eq_true rfl) rfl ?_
  refine r_iload1 dX2_addDough_0 ?_
  refine r_iconst (v := nI 0) dX2_addDough_1 (by decide) ?_
  refine r_sipush (v := nI 9999) dX2_addDough_2 (by decide) ?_
  refine r_callSN (M' := mX1_isBetween) _ dX2_addDough_5 q2151 q2152 rfl (lw_all_tbl q2153) q125 (by exact pl_X1_isBetween)  (k_isBetween1) (by omega) (Nat.le_of_ble_eq_true rfl) (by omega) (by omega) rfl (Nat.le_of_ble_eq_true rfl) rfl (kI fun r5 h5 n5 e5 => ?_) kN
  obtain ⟨q9, q8, q7⟩ := e5; have q9 := q9.symm; have q8 := q8.symm; have q7 := q7.symm; subst q9; subst q8; subst q7
  refine r_if_eqB (tgt := 25) dX2_addDough_8 (by decide) (fun c8 => ?_) (fun c8 => ?_)
  · refine r_iconst (v := nI 0) dX2_addDough_25 (by decide) ?_
    refine r_bipush (v := nI 97) dX2_addDough_26 (by decide) ?_
    refine g_st (st' := [.int (nI 97), .int (nB (bt p 0 9999 ∧ bt p2 1 12))]) (by rw [← nB_f (p := bt p 0 9999 ∧ bt p2 1 12) (fun z => c8 (hv.mpr z.1))]) ?_
    refine r_callSN (M' := mX1_demand) _ dX2_addDough_28 q2154 q2155 rfl (lw_all_tbl q2156) q125 (by exact pl_X1_demand)  ((k_demand (p := bt p 0 9999 ∧ bt p2 1 12) (c := 97) rfl (by decide) w0)) (by omega) (Nat.le_of_ble_eq_true rfl) (by omega) (by omega) rfl (Nat.le_of_ble_eq_true rfl) rfl (kV fun h28 n28 e28 => ?_) (fun q h' n' hx => r_out (by intro x hx; cases hx) (by obtain ⟨z1, rfl, rfl, rfl⟩ := hx; exact ⟨by unfold eAd; rw [if_pos z1]; decide, by unfold eAd; rw [if_pos z1]; exact cf_new⟩))
    obtain ⟨e28, q8, q7⟩ := e28; have q8 := q8.symm; have q7 := q7.symm; subst q8; subst q7
    exact absurd (hv.mpr e28.1) c8
  · refine r_iload2 dX2_addDough_11 ?_
    refine r_iconst (v := nI 1) dX2_addDough_12 (by decide) ?_
    refine r_bipush (v := nI 12) dX2_addDough_13 (by decide) ?_
    refine r_callSN (M' := mX1_isBetween) _ dX2_addDough_15 q2151 q2152 rfl (lw_all_tbl q2153) q125 (by exact pl_X1_isBetween)  (k_isBetween1) (by omega) (Nat.le_of_ble_eq_true rfl) (by omega) (by omega) rfl (Nat.le_of_ble_eq_true rfl) rfl (kI fun r15 h15 n15 e15 => ?_) kN
    obtain ⟨q9, q8, q7⟩ := e15; have q9 := q9.symm; have q8 := q8.symm; have q7 := q7.symm; subst q9; subst q8; subst q7
    refine r_if_eqB (tgt := 25) dX2_addDough_18 (by decide) (fun c18 => ?_) (fun c18 => ?_)
    · refine r_iconst (v := nI 0) dX2_addDough_25 (by decide) ?_
      refine r_bipush (v := nI 97) dX2_addDough_26 (by decide) ?_
      refine g_st (st' := [.int (nI 97), .int (nB (bt p 0 9999 ∧ bt p2 1 12))]) (by rw [← nB_f (p := bt p 0 9999 ∧ bt p2 1 12) (fun z => c18 (hv2.mpr z.2))]) ?_
      refine r_callSN (M' := mX1_demand) _ dX2_addDough_28 q2154 q2155 rfl (lw_all_tbl q2156) q125 (by exact pl_X1_demand)  ((k_demand (p := bt p 0 9999 ∧ bt p2 1 12) (c := 97) rfl (by decide) w0)) (by omega) (Nat.le_of_ble_eq_true rfl) (by omega) (by omega) rfl (Nat.le_of_ble_eq_true rfl) rfl (kV fun h28 n28 e28 => ?_) (fun q h' n' hx => r_out (by intro x hx; cases hx) (by obtain ⟨z1, rfl, rfl, rfl⟩ := hx; exact ⟨by unfold eAd; rw [if_pos z1]; decide, by unfold eAd; rw [if_pos z1]; exact cf_new⟩))
      obtain ⟨e28, q8, q7⟩ := e28; have q8 := q8.symm; have q7 := q7.symm; subst q8; subst q7
      exact absurd (hv2.mpr e28.2) c18
    · refine r_iconst (v := nI 1) dX2_addDough_21 (by decide) ?_
      refine r_goto (tgt := 26) dX2_addDough_22 (by decide) ?_
      refine r_bipush (v := nI 97) dX2_addDough_26 (by decide) ?_
      refine g_st (st' := [.int (nI 97), .int (nB (bt p 0 9999 ∧ bt p2 1 12))]) (by rw [← nB_t (p := bt p 0 9999 ∧ bt p2 1 12) ⟨hv.mp c8, hv2.mp c18⟩]) ?_
      refine r_callSN (M' := mX1_demand) _ dX2_addDough_28 q2154 q2155 rfl (lw_all_tbl q2156) q125 (by exact pl_X1_demand)  ((k_demand (p := bt p 0 9999 ∧ bt p2 1 12) (c := 97) rfl (by decide) w0)) (by omega) (Nat.le_of_ble_eq_true rfl) (by omega) (by omega) rfl (Nat.le_of_ble_eq_true rfl) rfl (kV fun h28 n28 e28 => ?_) (fun q h' n' hx => r_out (by intro x hx; cases hx) (by obtain ⟨z1, rfl, rfl, rfl⟩ := hx; exact ⟨by unfold eAd; rw [if_pos z1]; decide, by unfold eAd; rw [if_pos z1]; exact cf_new⟩))
      obtain ⟨e28, q8, q7⟩ := e28; have q8 := q8.symm; have q7 := q7.symm; subst q8; subst q7
      refine r_aload0 dX2_addDough_31 ?_
      refine f_X2_12_X2 dX2_addDough_32 k4 ?_
      refine r_callV (M' := mJ1_size) _ dX2_addDough_35 q2183 q403 q404 rfl (lw_all_tbl q405) q128 (by exact pl_J1_size) gc_J1 hm (hs) (by omega) (Nat.le_of_ble_eq_true rfl) (by omega) (by omega) rfl (Nat.le_of_ble_eq_true rfl) rfl (kI fun r35 h35 n35 e35 => ?_) kN
      obtain ⟨q9, q8, q7⟩ := e35; have q9 := q9.symm; have q8 := q8.symm; have q7 := q7.symm; subst q9; subst q8; subst q7
      refine r_bipush (v := nI 6) dX2_addDough_38 (by decide) ?_
      refine r_icmp_geN (tgt := 47) dX2_addDough_40 (by decide) (by omega) (by omega) (fun c40 => ?_) (fun c40 => ?_)
      · refine r_iconst (v := nI 0) dX2_addDough_47 (by decide) ?_
        refine r_bipush (v := nI 115) dX2_addDough_48 (by decide) ?_
        refine g_st (st' := [.int (nI 115), .int (nB (ρ 0 < 6))]) (by rw [← nB_f (p := ρ 0 < 6) (by omega)]) ?_
        refine r_callSN (M' := mX1_demand) _ dX2_addDough_50 q2154 q2155 rfl (lw_all_tbl q2156) q125 (by exact pl_X1_demand)  ((k_demand (p := ρ 0 < 6) (c := 115) rfl (by decide) w0)) (by omega) (Nat.le_of_ble_eq_true rfl) (by omega) (by omega) rfl (Nat.le_of_ble_eq_true rfl) rfl (kV fun h50 n50 e50 => ?_) (fun q h' n' hx => r_out (by intro x hx; cases hx) (by obtain ⟨z1, rfl, rfl, rfl⟩ := hx; have z2 : ρ 0 = 6 := (by omega); exact ⟨by unfold eAd; rw [if_neg (not_not_intro e28), if_pos z2]; decide, by unfold eAd; rw [if_neg (not_not_intro e28), if_pos z2]; exact cf_new⟩))
        obtain ⟨e50, q8, q7⟩ := e50; have q8 := q8.symm; have q7 := q7.symm; subst q8; subst q7
        exact absurd e50 (by omega)
      · refine r_iconst (v := nI 1) dX2_addDough_43 (by decide) ?_
        refine r_goto (tgt := 48) dX2_addDough_44 (by decide) ?_
        refine r_bipush (v := nI 115) dX2_addDough_48 (by decide) ?_
        refine g_st (st' := [.int (nI 115), .int (nB (ρ 0 < 6))]) (by rw [← nB_t (p := ρ 0 < 6) (by omega)]) ?_
        refine r_callSN (M' := mX1_demand) _ dX2_addDough_50 q2154 q2155 rfl (lw_all_tbl q2156) q125 (by exact pl_X1_demand)  ((k_demand (p := ρ 0 < 6) (c := 115) rfl (by decide) w0)) (by omega) (Nat.le_of_ble_eq_true rfl) (by omega) (by omega) rfl (Nat.le_of_ble_eq_true rfl) rfl (kV fun h50 n50 e50 => ?_) (fun q h' n' hx => r_out (by intro x hx; cases hx) (by obtain ⟨z1, rfl, rfl, rfl⟩ := hx; have z2 : ρ 0 = 6 := (by omega); exact ⟨by unfold eAd; rw [if_neg (not_not_intro e28), if_pos z2]; decide, by unfold eAd; rw [if_neg (not_not_intro e28), if_pos z2]; exact cf_new⟩))
        obtain ⟨e50, q8, q7⟩ := e50; have q8 := q8.symm; have q7 := q7.symm; subst q8; subst q7
        refine r_aload0 dX2_addDough_53 ?_
        refine f_X2_12_X2 dX2_addDough_54 k4 ?_
        refine r_callV (M' := mJ1_size) _ dX2_addDough_57 q2183 q403 q404 rfl (lw_all_tbl q405) q128 (by exact pl_J1_size) gc_J1 hm (hs) (by omega) (Nat.le_of_ble_eq_true rfl) (by omega) (by omega) rfl (Nat.le_of_ble_eq_true rfl) rfl (kI fun r57 h57 n57 e57 => ?_) kN
        obtain ⟨q9, q8, q7⟩ := e57; have q9 := q9.symm; have q8 := q8.symm; have q7 := q7.symm; subst q9; subst q8; subst q7
        obtain ⟨i, i1, i2, rfl, i4⟩ := bt_ex e28.1
        obtain ⟨j, j1, j2, rfl, j4⟩ := bt_ex e28.2
        rw [i4, j4]
        refine r_istore3 dX2_addDough_60 ?_
        refine r_aload0 dX2_addDough_61 ?_
        refine f_X2_12_X2 dX2_addDough_62 k4 ?_
        refine r_iload3 dX2_addDough_65 ?_
        refine r_callS (M' := mJ14_valueOf) _ dX2_addDough_66 q1777 q1778 rfl (lw_all_tbl q1779) q144 (by exact pl_J14_valueOf)  ((k_valueOf w0 (by omega))) (by omega) (Nat.le_of_ble_eq_true rfl) (by omega) (by omega) rfl (Nat.le_of_ble_eq_true rfl) rfl (kA fun r66 h66 n66 t66 e66 => ?_) kN
        obtain ⟨q9, q8, q7⟩ := e66; have q9 := q9.symm; have q8 := q8.symm; have q7 := q7.symm; subst q9; subst q8; subst q7
        refine n_X2_74 dX2_addDough_69 (by omega) (by omega) ?_
        refine r_dup dX2_addDough_72 ?_
        refine r_iload1 dX2_addDough_73 ?_
        refine r_iload2 dX2_addDough_74 ?_
        refine r_callI (M' := mX6_init) _ dX2_addDough_75 q2185 q2186 rfl rfl rfl (lw_all_tbl q2187) q146 (by exact pl_X6_init)  ((k_X6_init (a := n) (x := i) (y := j) (by omega) j1 (by omega) f1 g_us)) (by omega) (Nat.le_of_ble_eq_true rfl) (by omega) (by omega) rfl (Nat.le_of_ble_eq_true rfl) rfl (kV fun h75 n75 e75 => ?_) kN
        obtain ⟨q8, q7⟩ := e75; have q8 := q8.symm; have q7 := q7.symm; subst q8; subst q7
        refine r_callV (M' := mJ1_put) _ dX2_addDough_78 q2205 q1985 q4020 rfl (lw_all_tbl q1987) q128 (by exact pl_J1_put) gc_J1 (by rw [g_un (by have := y1.2; omega), g_un (by have := y1.2; omega)]; exact hm) ((bkD_.new (f := n) w0 ((k5.keep (h' := g_up (g_up h n _) n _) (fun q hq => by rw [g_un (by omega), g_un (by omega)])).mono (Nat.le_succ n)) (by omega) k1 (by have := k3.1; have := k3.2; omega) g_us (by omega))) (by omega) (Nat.le_of_ble_eq_true rfl) (by omega) (by omega) rfl (Nat.le_of_ble_eq_true rfl) rfl (kA fun r78 h78 n78 t78 e78 => ?_) kN
        obtain ⟨z1, ⟨z2, z3, z4⟩, rfl⟩ := e78
        have hcat : r78.category = 1 := by rcases t78 with rfl | ⟨y, rfl⟩ <;> rfl
        have fO : ∀ (q k : Nat) (vs : List Value), h q = some (g_ob k vs) → q < n → k ≠ 24 → k ≠ 17 → h78 q = h q := fun q k vs q1 q2 q3 q4 => by
          have e9 : (g_up (g_up h n (g_ob 4 [.int (nI 0), .int (nI 0)])) n (g_ob 4 [.int (nI (i / Nat.gcd i j)), .int (nI (j / Nat.gcd i j))])) q = h q := by rw [g_un (by omega), g_un (by omega)]
          exact (z2 q k vs (e9.trans q1) q3 q4).trans e9
        have fA : ∀ (q k : Nat) (vs : List Value), h q = some (g_ar k vs) → q < n → h78 q = h q := fun q k vs q1 q2 => by
          have e9 : (g_up (g_up h n (g_ob 4 [.int (nI 0), .int (nI 0)])) n (g_ob 4 [.int (nI (i / Nat.gcd i j)), .int (nI (j / Nat.gcd i j))])) q = h q := by rw [g_un (by omega), g_un (by omega)]
          exact (z3 q k vs (e9.trans q1)).trans e9
        refine r_pop dX2_addDough_81 ?_ hcat
        refine r_iload3 dX2_addDough_82 ?_
        refine r_ireturn dX2_addDough_83 rfl rfl ⟨by unfold eAd; rw [if_neg (not_not_intro e28), if_neg (by omega)], rfl, ?_, fun q hq => ?_, by omega, by omega⟩
        · exact bk_D k1 k2 k3 k4 k6 k7 k8 w (by omega) fO fA (fun q q1 q2 => by unfold mkD std; rw [fup_n q1, fup_n (by omega), fup_n (by omega)]) z1
        · have := k3.1; have := k3.2
          rw [z4 q hq, g_un (by omega), g_un (by omega)]
theorem k_mix2 (w0 : cOK K W) (k : bk K W lo n b ρ α h) (w : wB u ρ) {p p2 : Int32} : g_Met K mX2_mix 149 5 25 [.ref b, .int p, .int p2] h n (muP K W lo b h n 2 (eMx ρ p p2) (nI (sAb ρ (tN p) (tN p2) / Nat.gcd (sAb ρ (tN p) (tN p2)) (sBe ρ (tN p) (tN p2)))) (mxD ρ (tN p) (tN p2)) α) (muX W [105, 97, 117] h n (eMx ρ p p2)) := by
  refine g_Met.facts fun f1 f2 f3 => ?_
  have wb := w.b
  have k0 := k
  obtain ⟨k1, k2, k3, t, lb, eb, ll, el, k4, k5, k6, k7, k8⟩ := k
  obtain ⟨tvs, hm⟩ := k5.cell
  refine g_Met.of (M := mX2_mix) (L := [some (.ref b), some (.int p), some (.int p2), none]) (by decide +kernel) (Nat.le_of_ble_eq_true rfl) rfl ?_
  refine r_aload0 dX2_mix_0 ?_
  refine r_iload1 dX2_mix_1 ?_
  refine r_callV (M' := mX2_hasDough) _ dX2_mix_2 q2399 q2400 q2401 rfl (lw_all_tbl q2402) q126 (by exact pl_X2_hasDough) gc_X2 (by first | assumption | exact g_us | (rw [g_un (by omega)]; assumption) | (rw [g_un (by omega)]; exact g_us) | (rw [g_un (by omega), g_un (by omega)]; assumption) | (rw [g_un (by omega), g_un (by omega)]; exact g_us) | (rw [g_un (by omega), g_un (by omega), g_un (by omega)]; assumption) | ((repeat (rw [g_un (by omega)])); first | exact g_us | assumption)) ((k_hasDough k0 w)) (by omega) (Nat.le_of_ble_eq_true rfl) (by omega) (by omega) rfl (Nat.le_of_ble_eq_true rfl) rfl (kI fun r2 h2 n2 e2 => ?_) kN
  obtain ⟨q9, q8, q7⟩ := e2; have q9 := q9.symm; have q8 := q8.symm; have q7 := q7.symm; subst q9; subst q8; subst q7
  refine r_if_eqB (tgt := 20) dX2_mix_5 (by decide) (fun c5 => ?_) (fun c5 => ?_)
  · refine r_iconst (v := nI 0) dX2_mix_20 (by decide) ?_
    refine r_bipush (v := nI 105) dX2_mix_21 (by decide) ?_
    refine g_st (st' := [.int (nI 105), .int (nB (ix p (ρ 0) ∧ ix p2 (ρ 0)))]) (by rw [← nB_f (p := ix p (ρ 0) ∧ ix p2 (ρ 0)) (fun z => c5 z.1)]) ?_
    refine r_callSN (M' := mX1_demand) _ dX2_mix_23 q2154 q2155 rfl (lw_all_tbl q2156) q125 (by exact pl_X1_demand)  ((k_demand (p := ix p (ρ 0) ∧ ix p2 (ρ 0)) (c := 105) rfl (by decide) w0)) (by omega) (Nat.le_of_ble_eq_true rfl) (by omega) (by omega) rfl (Nat.le_of_ble_eq_true rfl) rfl (kV fun h23 n23 e23 => ?_) (fun q h' n' hx => r_out (by intro x hx; cases hx) (by obtain ⟨z1, rfl, rfl, rfl⟩ := hx; exact ⟨by unfold eMx; rw [if_pos z1]; decide, by unfold eMx; rw [if_pos z1]; exact cf_new⟩))
    obtain ⟨e23, q8, q7⟩ := e23; have q8 := q8.symm; have q7 := q7.symm; subst q8; subst q7
    exact absurd e23.1 c5
  · refine r_aload0 dX2_mix_8 ?_
    refine r_iload2 dX2_mix_9 ?_
    refine r_callV (M' := mX2_hasDough) _ dX2_mix_10 q2399 q2400 q2401 rfl (lw_all_tbl q2402) q126 (by exact pl_X2_hasDough) gc_X2 (by first | assumption | exact g_us | (rw [g_un (by omega)]; assumption) | (rw [g_un (by omega)]; exact g_us) | (rw [g_un (by omega), g_un (by omega)]; assumption) | (rw [g_un (by omega), g_un (by omega)]; exact g_us) | (rw [g_un (by omega), g_un (by omega), g_un (by omega)]; assumption) | ((repeat (rw [g_un (by omega)])); first | exact g_us | assumption)) ((k_hasDough k0 w)) (by omega) (Nat.le_of_ble_eq_true rfl) (by omega) (by omega) rfl (Nat.le_of_ble_eq_true rfl) rfl (kI fun r10 h10 n10 e10 => ?_) kN
    obtain ⟨q9, q8, q7⟩ := e10; have q9 := q9.symm; have q8 := q8.symm; have q7 := q7.symm; subst q9; subst q8; subst q7
    refine r_if_eqB (tgt := 20) dX2_mix_13 (by decide) (fun c13 => ?_) (fun c13 => ?_)
    · refine r_iconst (v := nI 0) dX2_mix_20 (by decide) ?_
      refine r_bipush (v := nI 105) dX2_mix_21 (by decide) ?_
      refine g_st (st' := [.int (nI 105), .int (nB (ix p (ρ 0) ∧ ix p2 (ρ 0)))]) (by rw [← nB_f (p := ix p (ρ 0) ∧ ix p2 (ρ 0)) (fun z => c13 z.2)]) ?_
      refine r_callSN (M' := mX1_demand) _ dX2_mix_23 q2154 q2155 rfl (lw_all_tbl q2156) q125 (by exact pl_X1_demand)  ((k_demand (p := ix p (ρ 0) ∧ ix p2 (ρ 0)) (c := 105) rfl (by decide) w0)) (by omega) (Nat.le_of_ble_eq_true rfl) (by omega) (by omega) rfl (Nat.le_of_ble_eq_true rfl) rfl (kV fun h23 n23 e23 => ?_) (fun q h' n' hx => r_out (by intro x hx; cases hx) (by obtain ⟨z1, rfl, rfl, rfl⟩ := hx; exact ⟨by unfold eMx; rw [if_pos z1]; decide, by unfold eMx; rw [if_pos z1]; exact cf_new⟩))
      obtain ⟨e23, q8, q7⟩ := e23; have q8 := q8.symm; have q7 := q7.symm; subst q8; subst q7
      exact absurd e23.2 c13
    · refine r_iconst (v := nI 1) dX2_mix_16 (by decide) ?_
      refine r_goto (tgt := 21) dX2_mix_17 (by decide) ?_
      refine r_bipush (v := nI 105) dX2_mix_21 (by decide) ?_
      refine g_st (st' := [.int (nI 105), .int (nB (ix p (ρ 0) ∧ ix p2 (ρ 0)))]) (by rw [← nB_t (p := ix p (ρ 0) ∧ ix p2 (ρ 0)) ⟨c5, c13⟩]) ?_
      refine r_callSN (M' := mX1_demand) _ dX2_mix_23 q2154 q2155 rfl (lw_all_tbl q2156) q125 (by exact pl_X1_demand)  ((k_demand (p := ix p (ρ 0) ∧ ix p2 (ρ 0)) (c := 105) rfl (by decide) w0)) (by omega) (Nat.le_of_ble_eq_true rfl) (by omega) (by omega) rfl (Nat.le_of_ble_eq_true rfl) rfl (kV fun h23 n23 e23 => ?_) (fun q h' n' hx => r_out (by intro x hx; cases hx) (by obtain ⟨z1, rfl, rfl, rfl⟩ := hx; exact ⟨by unfold eMx; rw [if_pos z1]; decide, by unfold eMx; rw [if_pos z1]; exact cf_new⟩))
      obtain ⟨e23, q8, q7⟩ := e23; have q8 := q8.symm; have q7 := q7.symm; subst q8; subst q7
      refine r_iload1 dX2_mix_26 ?_
      refine r_iload2 dX2_mix_27 ?_
      refine r_icmp_eq (tgt := 35) dX2_mix_28 (by decide) (fun c28 => ?_) (fun c28 => ?_)
      · refine r_iconst (v := nI 0) dX2_mix_35 (by decide) ?_
        refine r_bipush (v := nI 97) dX2_mix_36 (by decide) ?_
        refine g_st (st' := [.int (nI 97), .int (nB (¬ p = p2))]) (by rw [← nB_f (p := ¬ p = p2) (not_not_intro c28)]) ?_
        refine r_callSN (M' := mX1_demand) _ dX2_mix_38 q2154 q2155 rfl (lw_all_tbl q2156) q125 (by exact pl_X1_demand)  ((k_demand (p := ¬ p = p2) (c := 97) rfl (by decide) w0)) (by omega) (Nat.le_of_ble_eq_true rfl) (by omega) (by omega) rfl (Nat.le_of_ble_eq_true rfl) rfl (kV fun h38 n38 e38 => ?_) (fun q h' n' hx => r_out (by intro x hx; cases hx) (by obtain ⟨z1, rfl, rfl, rfl⟩ := hx; have z2 : p = p2 := (Decidable.not_not.mp z1); exact ⟨by unfold eMx; rw [if_neg (not_not_intro e23), if_pos z2]; decide, by unfold eMx; rw [if_neg (not_not_intro e23), if_pos z2]; exact cf_new⟩))
        obtain ⟨e38, q8, q7⟩ := e38; have q8 := q8.symm; have q7 := q7.symm; subst q8; subst q7
        exact absurd c28 e38
      · refine r_iconst (v := nI 1) dX2_mix_31 (by decide) ?_
        refine r_goto (tgt := 36) dX2_mix_32 (by decide) ?_
        refine r_bipush (v := nI 97) dX2_mix_36 (by decide) ?_
        refine g_st (st' := [.int (nI 97), .int (nB (¬ p = p2))]) (by rw [← nB_t (p := ¬ p = p2) c28]) ?_
        refine r_callSN (M' := mX1_demand) _ dX2_mix_38 q2154 q2155 rfl (lw_all_tbl q2156) q125 (by exact pl_X1_demand)  ((k_demand (p := ¬ p = p2) (c := 97) rfl (by decide) w0)) (by omega) (Nat.le_of_ble_eq_true rfl) (by omega) (by omega) rfl (Nat.le_of_ble_eq_true rfl) rfl (kV fun h38 n38 e38 => ?_) (fun q h' n' hx => r_out (by intro x hx; cases hx) (by obtain ⟨z1, rfl, rfl, rfl⟩ := hx; have z2 : p = p2 := (Decidable.not_not.mp z1); exact ⟨by unfold eMx; rw [if_neg (not_not_intro e23), if_pos z2]; decide, by unfold eMx; rw [if_neg (not_not_intro e23), if_pos z2]; exact cf_new⟩))
        obtain ⟨e38, q8, q7⟩ := e38; have q8 := q8.symm; have q7 := q7.symm; subst q8; subst q7
        obtain ⟨i, i1, rfl, i4⟩ := ix_ex e23.1
        obtain ⟨j, j1, rfl, j4⟩ := ix_ex e23.2
        rw [i4, j4]
        have wi := w.d i1
        have wj := w.d j1
        obtain ⟨x, z1, z2, z3⟩ := k_getD (n := n) w0 f3 k5 (by omega) i1
        obtain ⟨x2, z11, z12, z13⟩ := k_getD (n := n) w0 f3 k5 (by omega) j1
        have m1 : ρ (10 + 2 * i) * ρ (11 + 2 * j) ≤ 9999 * 12 := Nat.mul_le_mul wi.1 wj.2.2.1
        have m2 : ρ (10 + 2 * j) * ρ (11 + 2 * i) ≤ 9999 * 12 := Nat.mul_le_mul wj.1 wi.2.2.1
        have m3 : ρ (11 + 2 * i) * ρ (11 + 2 * j) ≤ 12 * 12 := Nat.mul_le_mul wi.2.2.1 wj.2.2.1
        have m4 : sAb ρ i j / Nat.gcd (sAb ρ i j) (sBe ρ i j) ≤ sAb ρ i j := Nat.div_le_self _ _
        have m5 : sBe ρ i j / Nat.gcd (sAb ρ i j) (sBe ρ i j) ≤ sBe ρ i j := Nat.div_le_self _ _
        have m6 : sAb ρ i j ≤ 239976 := by unfold sAb; omega
        have m7 : sBe ρ i j ≤ 144 := by unfold sBe; omega
        refine r_aload0 dX2_mix_41 ?_
        refine f_X2_12_X2 dX2_mix_42 k4 ?_
        refine r_iload1 dX2_mix_45 ?_
        refine r_callS (M' := mJ14_valueOf) _ dX2_mix_46 q1777 q1778 rfl (lw_all_tbl q1779) q144 (by exact pl_J14_valueOf)  ((k_valueOf w0 (by omega))) (by omega) (Nat.le_of_ble_eq_true rfl) (by omega) (by omega) rfl (Nat.le_of_ble_eq_true rfl) rfl (kA fun r46 h46 n46 t46 e46 => ?_) kN
        obtain ⟨q9, q8, q7⟩ := e46; have q9 := q9.symm; have q8 := q8.symm; have q7 := q7.symm; subst q9; subst q8; subst q7
        refine r_callV (M' := mJ1_get) _ dX2_mix_49 q1796 q1797 q1798 rfl (lw_all_tbl q1799) q128 (by exact pl_J1_get) gc_J1 hm (z3) (by omega) (Nat.le_of_ble_eq_true rfl) (by omega) (by omega) rfl (Nat.le_of_ble_eq_true rfl) rfl (kA fun r49 h49 n49 t49 e49 => ?_) kN
        obtain ⟨q9, q8, q7⟩ := e49; have q9 := q9.symm; have q8 := q8.symm; have q7 := q7.symm; subst q9; subst q8; subst q7
        refine r_checkcast dX2_mix_52 gc_X6 q1816 (Or.inl rfl) z1 ?_
        refine r_aload0 dX2_mix_55 ?_
        refine f_X2_12_X2 dX2_mix_56 k4 ?_
        refine r_iload2 dX2_mix_59 ?_
        refine r_callS (M' := mJ14_valueOf) _ dX2_mix_60 q1777 q1778 rfl (lw_all_tbl q1779) q144 (by exact pl_J14_valueOf)  ((k_valueOf w0 (by omega))) (by omega) (Nat.le_of_ble_eq_true rfl) (by omega) (by omega) rfl (Nat.le_of_ble_eq_true rfl) rfl (kA fun r60 h60 n60 t60 e60 => ?_) kN
        obtain ⟨q9, q8, q7⟩ := e60; have q9 := q9.symm; have q8 := q8.symm; have q7 := q7.symm; subst q9; subst q8; subst q7
        refine r_callV (M' := mJ1_get) _ dX2_mix_63 q1796 q1797 q1798 rfl (lw_all_tbl q1799) q128 (by exact pl_J1_get) gc_J1 hm (z13) (by omega) (Nat.le_of_ble_eq_true rfl) (by omega) (by omega) rfl (Nat.le_of_ble_eq_true rfl) rfl (kA fun r63 h63 n63 t63 e63 => ?_) kN
        obtain ⟨q9, q8, q7⟩ := e63; have q9 := q9.symm; have q8 := q8.symm; have q7 := q7.symm; subst q9; subst q8; subst q7
        refine r_checkcast dX2_mix_66 gc_X6 q1816 (Or.inl rfl) z11 ?_
        refine r_callV (M' := mX6_plus) _ dX2_mix_69 q2403 q2404 q2405 rfl (lw_all_tbl q2406) q146 (by exact pl_X6_plus) gc_X6 z1 ((k_plus z1 z11 wi.1 wi.2.1 wi.2.2.1 wj.1 wj.2.1 wj.2.2.1)) (by omega) (Nat.le_of_ble_eq_true rfl) (by omega) (by omega) rfl (Nat.le_of_ble_eq_true rfl) rfl (kA fun r69 h69 n69 t69 e69 => ?_) kN
        obtain ⟨q9, q8, q7⟩ := e69; have q9 := q9.symm; have q8 := q8.symm; have q7 := q7.symm; subst q9; subst q8; subst q7
        refine r_astore3 dX2_mix_72 ?_
        refine r_aload3 dX2_mix_73 ?_
        refine r_callV (M' := mX6_isDough) _ dX2_mix_74 q2408 q2409 q2410 rfl (lw_all_tbl q2411) q146 (by exact pl_X6_isDough) gc_X6 g_us ((k_isDough1 (x := sAb ρ i j / Nat.gcd (sAb ρ i j) (sBe ρ i j)) (y := sBe ρ i j / Nat.gcd (sAb ρ i j) (sBe ρ i j)) (by omega) (by omega) g_us)) (by omega) (Nat.le_of_ble_eq_true rfl) (by omega) (by omega) rfl (Nat.le_of_ble_eq_true rfl) rfl (kI fun r74 h74 n74 e74 => ?_) kN
        obtain ⟨q9, q8, q7⟩ := e74; have q9 := q9.symm; have q8 := q8.symm; have q7 := q7.symm; subst q9; subst q8; subst q7
        refine r_bipush (v := nI 117) dX2_mix_77 (by decide) ?_
        refine r_callSN (M' := mX1_demand) _ dX2_mix_79 q2154 q2155 rfl (lw_all_tbl q2156) q125 (by exact pl_X1_demand)  ((k_demand (p := sAb ρ i j / Nat.gcd (sAb ρ i j) (sBe ρ i j) ≤ 9999 ∧ sBe ρ i j / Nat.gcd (sAb ρ i j) (sBe ρ i j) ≤ 12) (c := 117) rfl (by decide) w0)) (by omega) (Nat.le_of_ble_eq_true rfl) (by omega) (by omega) rfl (Nat.le_of_ble_eq_true rfl) rfl (kV fun h79 n79 e79 => ?_) (fun q h' n' hx => r_out (by intro x hx; cases hx) (by obtain ⟨z1, rfl, rfl, rfl⟩ := hx; have z9 : 9999 < sAb ρ i j / Nat.gcd (sAb ρ i j) (sBe ρ i j) ∨ 12 < sBe ρ i j / Nat.gcd (sAb ρ i j) (sBe ρ i j) := (by omega); exact ⟨by unfold eMx; rw [if_neg (not_not_intro e23), if_neg e38, i4, j4, if_pos z9]; decide, by unfold eMx; rw [if_neg (not_not_intro e23), if_neg e38, i4, j4, if_pos z9]; exact ⟨by omega, by omega, by omega, fun z hz => by rw [g_un (by omega), g_un (by omega)], g_us⟩⟩))
        obtain ⟨e79, q8, q7⟩ := e79; have q8 := q8.symm; have q7 := q7.symm; subst q8; subst q7
        have k51 := (k5.keep (h' := g_up h n (g_ob 4 [.int (nI (sAb ρ i j / Nat.gcd (sAb ρ i j) (sBe ρ i j))), .int (nI (sBe ρ i j / Nat.gcd (sAb ρ i j) (sBe ρ i j)))])) (fun q hq => by rw [g_un (by omega)])).mono (Nat.le_succ n)
        have k41 : g_up h n (g_ob 4 [.int (nI (sAb ρ i j / Nat.gcd (sAb ρ i j) (sBe ρ i j))), .int (nI (sBe ρ i j / Nat.gcd (sAb ρ i j) (sBe ρ i j)))]) b = some (bkO b t lb ll ρ α) := by rw [g_un (by have := k3.2; omega)]; exact k4
        obtain ⟨tvs1, hm1⟩ := k51.cell
        refine r_aload0 dX2_mix_82 ?_
        refine f_X2_12_X2 dX2_mix_83 k41 ?_
        refine r_iload1 dX2_mix_86 ?_
        refine r_callS (M' := mJ14_valueOf) _ dX2_mix_87 q1777 q1778 rfl (lw_all_tbl q1779) q144 (by exact pl_J14_valueOf)  ((k_valueOf w0 (by omega))) (by omega) (Nat.le_of_ble_eq_true rfl) (by omega) (by omega) rfl (Nat.le_of_ble_eq_true rfl) rfl (kA fun r87 h87 n87 t87 e87 => ?_) kN
        obtain ⟨q9, q8, q7⟩ := e87; have q9 := q9.symm; have q8 := q8.symm; have q7 := q7.symm; subst q9; subst q8; subst q7
        refine r_aload3 dX2_mix_90 ?_
        refine r_callV (M' := mJ1_put) _ dX2_mix_91 q2205 q1985 q4020 rfl (lw_all_tbl q1987) q128 (by exact pl_J1_put) gc_J1 hm1 ((bkD_.put w0 k51 (by omega) k1 i1 g_us (by omega))) (by omega) (Nat.le_of_ble_eq_true rfl) (by omega) (by omega) rfl (Nat.le_of_ble_eq_true rfl) rfl (kA fun r91 h91 n91 t91 e91 => ?_) kN
        obtain ⟨z5, ⟨nd, nvs, z6, z7, z8⟩, rfl⟩ := e91
        have hcat : r91.category = 1 := by rcases t91 with rfl | ⟨y, rfl⟩ <;> rfl
        have g91 : ∀ (q k : Nat) (vs : List Value), (g_up h n (g_ob 4 [.int (nI (sAb ρ i j / Nat.gcd (sAb ρ i j) (sBe ρ i j))), .int (nI (sBe ρ i j / Nat.gcd (sAb ρ i j) (sBe ρ i j)))])) q = some (g_ob k vs) → k ≠ 24 → h91 q = some (g_ob k vs) := fun q k vs q1 q2 => by
          rw [z8 q (fun z => by rw [z, z6] at q1; exact q2 (obj_inj q1).symm)]
          exact q1
        obtain ⟨tvs2, hm2⟩ := z5.cell
        refine r_pop dX2_mix_94 ?_ hcat
        refine r_aload0 dX2_mix_95 ?_
        refine f_X2_12_X2 dX2_mix_96 (g91 _ _ _ k41 (by decide)) ?_
        refine r_iload2 dX2_mix_99 ?_
        refine r_callS (M' := mJ14_valueOf) _ dX2_mix_100 q1777 q1778 rfl (lw_all_tbl q1779) q144 (by exact pl_J14_valueOf)  ((k_valueOf w0 (by omega))) (by omega) (Nat.le_of_ble_eq_true rfl) (by omega) (by omega) rfl (Nat.le_of_ble_eq_true rfl) rfl (kA fun r100 h100 n100 t100 e100 => ?_) kN
        obtain ⟨q9, q8, q7⟩ := e100; have q9 := q9.symm; have q8 := q8.symm; have q7 := q7.symm; subst q9; subst q8; subst q7
        refine n_X2_74 dX2_mix_103 (by omega) (by omega) ?_
        refine r_dup dX2_mix_106 ?_
        refine r_iconst (v := nI 0) dX2_mix_107 (by decide) ?_
        refine r_iconst (v := nI 1) dX2_mix_108 (by decide) ?_
        refine r_callI (M' := mX6_init) _ dX2_mix_109 q2185 q2186 rfl rfl rfl (lw_all_tbl q2187) q146 (by exact pl_X6_init)  ((k_X6_init (a := n + 1) (x := 0) (y := 1) (by omega) (by omega) (by omega) (by omega) g_us)) (by omega) (Nat.le_of_ble_eq_true rfl) (by omega) (by omega) rfl (Nat.le_of_ble_eq_true rfl) rfl (kV fun h109 n109 e109 => ?_) kN
        obtain ⟨q8, q7⟩ := e109; have q8 := q8.symm; have q7 := q7.symm; subst q8; subst q7
        have k52 := (z5.keep (h' := g_up (g_up h91 (n + 1) (g_ob 4 [.int (nI 0), .int (nI 0)])) (n + 1) (g_ob 4 [.int (nI (0 / Nat.gcd 0 1)), .int (nI (1 / Nat.gcd 0 1))])) (fun q hq => by rw [g_un (by omega), g_un (by omega)])).mono (Nat.le_succ (n + 1))
        obtain ⟨tvs3, hm3⟩ := k52.cell
        refine r_callV (M' := mJ1_put) _ dX2_mix_112 q2205 q1985 q4020 rfl (lw_all_tbl q1987) q128 (by exact pl_J1_put) gc_J1 hm3 ((bkD_.put (i := j) (f := n + 1) w0 k52 (by rw [fup_n (by omega), fup_n (by omega)]; omega) k1 (by rw [fup_n (by omega), fup_n (by omega)]; exact j1) g_us (by omega))) (by omega) (Nat.le_of_ble_eq_true rfl) (by omega) (by omega) rfl (Nat.le_of_ble_eq_true rfl) rfl (kA fun r112 h112 n112 t112 e112 => ?_) kN
        obtain ⟨z15, ⟨nd2, nvs2, z16, z17, z18⟩, rfl⟩ := e112
        have hcat2 : r112.category = 1 := by rcases t112 with rfl | ⟨y, rfl⟩ <;> rfl
        have g112 : ∀ (q k : Nat) (vs : List Value), h91 q = some (g_ob k vs) → q < n + 1 → k ≠ 24 → h112 q = some (g_ob k vs) := fun q k vs q1 q3 q2 => by
          have e9 : (g_up (g_up h91 (n + 1) (g_ob 4 [.int (nI 0), .int (nI 0)])) (n + 1) (g_ob 4 [.int (nI (0 / Nat.gcd 0 1)), .int (nI (1 / Nat.gcd 0 1))])) q = h91 q := by rw [g_un (by omega), g_un (by omega)]
          rw [z18 q (fun z => by rw [z, z16] at e9; rw [z, ← e9] at q1; exact q2 (obj_inj q1).symm), e9]
          exact q1
        have fO : ∀ (q k : Nat) (vs : List Value), h q = some (g_ob k vs) → q < n → k ≠ 24 → k ≠ 17 → h112 q = h q := fun q k vs q1 q2 q3 q4 => by
          rw [q1]
          exact g112 q k vs (g91 q k vs (by rw [g_un (by omega)]; exact q1) q3) (by omega) q3
        have fA : ∀ (q k : Nat) (vs : List Value), h q = some (g_ar k vs) → q < n → h112 q = h q := fun q k vs q1 q2 => by
          have e8 : h91 q = h q := by
            rw [z8 q (fun z => by rw [← z, g_un (by omega), q1] at z6; exact obj_arr z6.symm), g_un (by omega)]
          have e9 : (g_up (g_up h91 (n + 1) (g_ob 4 [.int (nI 0), .int (nI 0)])) (n + 1) (g_ob 4 [.int (nI (0 / Nat.gcd 0 1)), .int (nI (1 / Nat.gcd 0 1))])) q = h91 q := by rw [g_un (by omega), g_un (by omega)]
          rw [z18 q (fun z => by rw [← z, e9, e8, q1] at z16; exact obj_arr z16.symm), e9, e8]
        refine r_pop dX2_mix_115 ?_ hcat2
        refine r_aload3 dX2_mix_116 ?_
        refine f_X2_157_X6 dX2_mix_117 (g112 _ _ _ (g91 _ _ _ g_us (by decide)) (by omega) (by decide)) ?_
        refine r_ireturn dX2_mix_120 rfl rfl ⟨by unfold eMx; rw [if_neg (not_not_intro e23), if_neg e38, i4, j4, if_neg (by omega)], rfl, ?_, fun q hq => ?_, by omega, by omega⟩
        · exact bk_D k1 k2 k3 k4 k6 k7 k8 w (by omega) fO fA (fun q q1 q2 => by unfold mxD std; rw [fup_n (by omega), fup_n (by omega), fup_n (by omega), fup_n (by omega)]) z15
        · have := k3.1; have := k3.2; have := z7.1; have := z17.1
          rw [z18 q (by omega), g_un (by omega), g_un (by omega), z8 q (by omega), g_un (by omega)]
end
