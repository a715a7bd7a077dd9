/-! bake -/
set_option maxRecDepth 100000
theorem bkD_eq {ρ : Nat → Nat} {i : Nat} (hi : i < 5) : bkD ρ i = fup (bkN ρ (ρ (23 + 2 * i)) (ρ 2)) (23 + 2 * i) 0 := by
  funext q
  have es : ∀ k, shr (fup ρ (23 + 2 * i) 0) (ρ (23 + 2 * i)) k = shr ρ (ρ (23 + 2 * i)) k := fun k => shr_ext (fup_n (by omega)) fun j => fup_n (by omega)
  by_cases e : q = 23 + 2 * i
  · rw [e, fup_s]
    show bkN _ _ _ _ = _
    rw [bkN_out (by omega), fup_s]
  · rw [fup_n e]
    show bkN _ _ _ _ = _
    unfold bkN
    rw [es, fup_n e]
section
variable {K : g_K} {W : c_W} {lo b n u : Nat} {ρ : Nat → Nat} {α : Nat → Int64} {h : g_P}
theorem k_bake2 (w0 : cOK K W) (k : bk K W lo n b ρ α h) (w : wB u ρ) (hu : u < 20000) {p : Int32} : g_Met K mX2_bake 10 26 118 [.ref b, .int p] h n (muP K W lo b h n 23 (eBa ρ p) (nI (ρ (23 + 2 * tN p))) (bkD ρ (tN p)) α) (muX W [105, 101, 117] h n (eBa ρ p)) := by
  have wb := w.b
  have k0 := k
  refine g_Met.facts fun f1 f2 f3 => ?_
  have main : ∀ i, i < ρ 1 → p = nI i → tN p = i → ρ 2 ≠ 0 → ρ (23 + 2 * i) ≠ 0 → g_G K mX2_bake 10 23 97 (muP K W lo b h n 23 (eBa ρ p) (nI (ρ (23 + 2 * tN p))) (bkD ρ (tN p)) α) (muX W [105, 101, 117] h n (eBa ρ p)) 63 [some (.ref b), some (.int (nI i)), some (.int (nI (ρ (23 + 2 * i)))), none, none] [] h n := by
    intro i hi ep et h2 h3
    have ee : eBa ρ p = 0 := by
      unfold eBa
      rw [if_neg (fun z => z (by rw [ep]; exact ⟨by rw [nI_toInt (by omega)]; omega, by rw [nI_toInt (by omega)]; omega⟩)), if_neg h2, et, if_neg h3]
    rw [ee, et]
    have wo := w.o hi
    have loop : ∀ (g j : Nat) (e n9 : Nat) (hj : g_P), j + g = ρ 2 → n ≤ e → n + 2 ≤ n9 → n9 ≤ n + 23 → bk K W lo n b (bkN ρ (ρ (23 + 2 * i)) j) α hj → hj e = some (g_ar 0 (aI (ρ 2) (fun k => nI (shr ρ (ρ (23 + 2 * i)) k)))) → (∀ q : Nat, q < lo → hj q = h q) → g_G K mX2_bake 10 0 0 (muP K W lo b h n 23 0 (nI (ρ (23 + 2 * i))) (bkD ρ i) α) (muX W [105, 101, 117] h n 0) 75 [some (.ref b), some (.int (nI i)), some (.int (nI (ρ (23 + 2 * i)))), some (.ref e), some (.int (nI j))] [] hj n9 := by
      intro g
      induction g with
      | zero =>
        intro j e n9 hj ej en n2 n23 kj he fj
        have : j = ρ 2 := by omega
        subst this
        have wj := w.bk (c := ρ (23 + 2 * i)) (j := ρ 2) hu (by omega) (Nat.le_refl _)
        obtain ⟨c1, c2, c3, t0, lb0, eb0, ll0, el0, c4, c5, c6, c7, c8⟩ := kj
        obtain ⟨y1, y2, y3⟩ := c6.cell
        have e1 : bkN ρ (ρ (23 + 2 * i)) (ρ 2) 1 = ρ 1 := bkN_out (by omega)
        obtain ⟨x, z1, z2, z3, z4⟩ := c6.bowl (i := i) (by omega)
        have k10 := bk_putB (v := 0) wj (by omega) c1 c2 c3 c4 c5 c7 c8 z1 (z4 0)
        refine r_iload4 dX2_bake_75 ?_
        refine r_aload3 dX2_bake_77 ?_
        refine r_arraylength dX2_bake_78 ga_I he (by rw [aI_len]) ?_
        refine r_icmp_geN (tgt := 114) dX2_bake_79 (by decide) (by omega) (by omega) (fun c79 => ?_) (fun c79 => absurd c79 (by omega))
        refine r_aload0 dX2_bake_114 ?_
        refine f_X2_21_X2 dX2_bake_115 c4 ?_
        refine r_iload1 dX2_bake_118 ?_
        refine r_callF (M' := mJ4_get) _ dX2_bake_119 q1907 q468 q467 rfl q469 q471 q472 q470 q414 rfl (lw_all_tbl q473) q131 (by exact (⟨by decide, by decide, by decide +kernel⟩ : g_pl ⟨"java/util/List", "get", "(I)Ljava/lang/Object;"⟩ 1)) gc_J4 y3 ((z3 _)) (by omega) (Nat.le_of_ble_eq_true rfl) (by omega) (by omega) rfl (Nat.le_of_ble_eq_true rfl) rfl (kA fun r119 h119 n119 t119 e119 => ?_) kN
        obtain ⟨q9, q8, q7⟩ := e119; have q9 := q9.symm; have q8 := q8.symm; have q7 := q7.symm; subst q9; subst q8; subst q7
        refine r_checkcast dX2_bake_124 gc_X7 q1647 (Or.inl rfl) z1 ?_
        refine r_iconst (v := nI 0) dX2_bake_127 (by decide) ?_
        refine p_X2_88_X7 dX2_bake_128 (by omega) z1 ?_
        refine r_iload2 dX2_bake_131 ?_
        exact r_ireturn dX2_bake_132 rfl rfl (⟨rfl, rfl, by rw [bkD_eq (by omega)]; exact k10.mono (by omega), fun q hq => by rw [g_un (by have := z2.1; omega)]; exact fj q hq, by omega, n23⟩)
      | succ g ih =>
        intro j e n9 hj ej en n2 n23 kj he fj
        have wj := w.bk (c := ρ (23 + 2 * i)) (j := j) hu (by omega) (by omega)
        have wj2 := w.bk (c := ρ (23 + 2 * i)) (j := j + 1) hu (by omega) (by omega)
        obtain ⟨c1, c2, c3, t0, lb0, eb0, ll0, el0, c4, c5, c6, c7, c8⟩ := kj
        obtain ⟨y1, y2, y3⟩ := c7.cell
        have e2 : bkN ρ (ρ (23 + 2 * i)) j 2 = ρ 2 := bkN_out (by omega)
        obtain ⟨x, z1, z2, z3, z4⟩ := c7.loaf (i := j) (by omega)
        have k10 := bk_putL (v := bkN ρ (ρ (23 + 2 * i)) j (34 + 3 * j) + shr ρ (ρ (23 + 2 * i)) j) wj c1 c2 c3 c4 c5 c6 c8 z1 (z4 _)
        rw [bkN_s] at k10
        have xe : e ≠ x := fun z => by rw [z, z1] at he; exact obj_arr he
        refine r_iload4 dX2_bake_75 ?_
        refine r_aload3 dX2_bake_77 ?_
        refine r_arraylength dX2_bake_78 ga_I he (by rw [aI_len]) ?_
        refine r_icmp_geN (tgt := 114) dX2_bake_79 (by decide) (by omega) (by omega) (fun c79 => absurd c79 (by omega)) (fun c79 => ?_)
        refine r_aload0 dX2_bake_82 ?_
        refine f_X2_25_X2 dX2_bake_83 c4 ?_
        refine r_iload4 dX2_bake_86 ?_
        refine r_callF (M' := mJ4_get) _ dX2_bake_88 q1907 q468 q467 rfl q469 q471 q472 q470 q414 rfl (lw_all_tbl q473) q131 (by exact (⟨by decide, by decide, by decide +kernel⟩ : g_pl ⟨"java/util/List", "get", "(I)Ljava/lang/Object;"⟩ 1)) gc_J4 y3 ((z3 _)) (by omega) (Nat.le_of_ble_eq_true rfl) (by omega) (by omega) rfl (Nat.le_of_ble_eq_true rfl) rfl (kA fun r88 h88 n88 t88 e88 => ?_) kN
        obtain ⟨q9, q8, q7⟩ := e88; have q9 := q9.symm; have q8 := q8.symm; have q7 := q7.symm; subst q9; subst q8; subst q7
        refine r_checkcast dX2_bake_93 gc_X8 q1648 (Or.inl rfl) z1 ?_
        refine r_dup dX2_bake_96 ?_
        refine f_X2_139_X8 dX2_bake_97 z1 ?_
        refine r_aload3 dX2_bake_100 ?_
        refine r_iload4 dX2_bake_101 ?_
        refine r_iaload (j) dX2_bake_103 he rfl (by omega) (aI_at (by omega)) ?_
        refine r_iadd dX2_bake_104 (nI_add _ _) ?_
        refine p_X2_139_X8 dX2_bake_105 (by omega) z1 ?_
        refine r_iinc4 dX2_bake_108 (ii1 _) ?_
        refine r_goto (tgt := 75) dX2_bake_111 (by decide) ?_
        exact ih (j + 1) e n9 _ (by omega) en n2 n23 k10 (by rw [g_un xe]; exact he) (fun q hq => by rw [g_un (by have := z2.1; omega)]; exact fj q hq)
    obtain ⟨k1, k2, k3, t, lb, eb, ll, el, k4, k5, k6, k7, k8⟩ := k
    refine r_aload0 dX2_bake_63 ?_
    refine r_iload1 dX2_bake_64 ?_
    refine r_callV (M' := mX2_sharing) _ dX2_bake_65 q1900 q1901 q1902 rfl (lw_all_tbl q1903) q126 (by exact pl_X2_sharing) gc_X2 k4 ((k_sharing2 k0 w hi)) (by omega) (Nat.le_of_ble_eq_true rfl) (by omega) (by omega) rfl (Nat.le_of_ble_eq_true rfl) rfl (kA fun r65 h65 n65 t65 e65 => ?_) kN
    obtain ⟨rfl, ⟨t', lb', ll', q1, q2⟩, q3, rfl⟩ := e65
    obtain ⟨rfl, rfl, rfl⟩ := bkO_inj k4 q1
    have k90 := k0.keep q3
    refine r_callV (M' := mX9_shares) _ dX2_bake_68 q1929 q1930 q1931 rfl (lw_all_tbl q1932) q178 (by exact pl_X9_shares) gc_X9 q2 ((k_shares w0 (k7.keep q3) (by omega) w (by omega) q2)) (by omega) (Nat.le_of_ble_eq_true rfl) (by omega) (by omega) rfl (Nat.le_of_ble_eq_true rfl) rfl (kA fun r68 h68 n68 t68 e68 => ?_) kN
    obtain ⟨e, rfl, a1, a2, a3, a4, a5, a6⟩ := e68
    refine r_astore3 dX2_bake_71 ?_
    refine r_iconst (v := nI 0) dX2_bake_72 (by decide) ?_
    refine r_istore4 dX2_bake_73 ?_
    refine g_bud (bc' := 0) (bs' := 0) (by omega) (by omega) (Nat.le_refl _) (loop (ρ 2) 0 e _ _ (by omega) (by omega) (by omega) (by omega) (by rw [bkN_0]; exact k90.keep fun q hq => a4 q (by omega)) a3 (fun q hq => (a4 q (by have := k3.1; have := k3.2; omega)).trans (q3 q (by have := k3.1; have := k3.2; omega))))
  obtain ⟨k1, k2, k3, t, lb, eb, ll, el, k4, k5, k6, k7, k8⟩ := k
  obtain ⟨b1, b2, b3, mb, B, b4, b5⟩ := k7
  have b40 := b4
  obtain ⟨b41, br, b42, b43⟩ := b4
  obtain ⟨y1, y2, y3⟩ := k6.cell
  refine g_Met.of (M := mX2_bake) (L := [some (.ref b), some (.int p), none, none, none]) (by decide +kernel) (Nat.le_of_ble_eq_true rfl) rfl ?_
  refine r_aload0 dX2_bake_0 ?_
  refine r_iload1 dX2_bake_1 ?_
  refine r_callV (M' := mX2_hasBowl) _ dX2_bake_2 q2521 q2522 q2523 rfl (lw_all_tbl q2524) q126 (by exact pl_X2_hasBowl) gc_X2 (by first | assumption | exact g_us | (rw [g_un (by omega)]; assumption) | (rw [g_un (by omega)]; exact g_us) | (rw [g_un (by omega), g_un (by omega)]; assumption) | (rw [g_un (by omega), g_un (by omega)]; exact g_us) | (rw [g_un (by omega), g_un (by omega), g_un (by omega)]; assumption) | ((repeat (rw [g_un (by omega)])); first | exact g_us | assumption)) ((k_hasBowl k0 w)) (by omega) (Nat.le_of_ble_eq_true rfl) (by omega) (by omega) rfl (Nat.le_of_ble_eq_true rfl) rfl (kI fun r2 h2 n2 e2 => ?_) kN
  obtain ⟨q9, q8, q7⟩ := e2; have q9 := q9.symm; have q8 := q8.symm; have q7 := q7.symm; subst q9; subst q8; subst q7
  refine r_bipush (v := nI 105) dX2_bake_5 (by decide) ?_
  refine r_callSN (M' := mX1_demand) _ dX2_bake_7 q2154 q2155 rfl (lw_all_tbl q2156) q125 (by exact pl_X1_demand)  ((k_demand (p := ix p (ρ 1)) (c := 105) rfl (by decide) w0)) (by omega) (Nat.le_of_ble_eq_true rfl) (by omega) (by omega) rfl (Nat.le_of_ble_eq_true rfl) rfl (kV fun h7 n7 e7 => ?_) (fun q h' n' hx => r_out (by intro x hx; cases hx) (by obtain ⟨z1, rfl, rfl, rfl⟩ := hx; exact ⟨by unfold eBa; rw [if_pos z1]; decide, by unfold eBa; rw [if_pos z1]; exact cf_new⟩))
  obtain ⟨e7, q8, q7⟩ := e7; have q8 := q8.symm; have q7 := q7.symm; subst q8; subst q7
  obtain ⟨i, i1, rfl, i3⟩ := ix_ex e7
  obtain ⟨x, z1, z2, z3, z4⟩ := k6.bowl i1
  have wo := w.o i1
  refine r_aload0 dX2_bake_10 ?_
  refine f_X2_25_X2 dX2_bake_11 k4 ?_
  refine r_callF (M' := mJ4_isEmpty) _ dX2_bake_14 q2071 q2073 q2072 rfl q2074 q2076 q2077 q2075 q414 rfl (lw_all_tbl q2078) q131 (by exact (⟨by decide, by decide, by decide +kernel⟩ : g_pl ⟨"java/util/List", "isEmpty", "()Z"⟩ 0)) gc_J4 b41 ((k_J4_isEmpty b40)) (by omega) (Nat.le_of_ble_eq_true rfl) (by omega) (by omega) rfl (Nat.le_of_ble_eq_true rfl) rfl (kI fun r14 h14 n14 e14 => ?_) kN
  obtain ⟨q9, q8, q7⟩ := e14; have q9 := q9.symm; have q8 := q8.symm; have q7 := q7.symm; subst q9; subst q8; subst q7
  refine r_if_neB (tgt := 26) dX2_bake_19 (by decide) (fun c19 => ?_) (fun c19 => ?_)
  · refine r_iconst (v := nI 0) dX2_bake_26 (by decide) ?_
    refine g_st (st' := [.int (nB (ρ 2 ≠ 0))]) (by rw [← nB_f (p := ρ 2 ≠ 0) (fun z => z (by rw [blist_len] at c19; exact c19))]) ?_
    refine r_bipush (v := nI 101) dX2_bake_27 (by decide) ?_
    refine r_callSN (M' := mX1_demand) _ dX2_bake_29 q2154 q2155 rfl (lw_all_tbl q2156) q125 (by exact pl_X1_demand)  ((k_demand (p := ρ 2 ≠ 0) (c := 101) rfl (by decide) w0)) (by omega) (Nat.le_of_ble_eq_true rfl) (by omega) (by omega) rfl (Nat.le_of_ble_eq_true rfl) rfl (kV fun h29 n29 e29 => ?_) (fun q h' n' hx => r_out (by intro x hx; cases hx) (by obtain ⟨z1, rfl, rfl, rfl⟩ := hx; exact ⟨by unfold eBa; rw [if_neg (fun z => z e7), if_pos (Decidable.not_not.mp z1)]; decide, by unfold eBa; rw [if_neg (fun z => z e7), if_pos (Decidable.not_not.mp z1)]; exact cf_new⟩))
    obtain ⟨e29, q8, q7⟩ := e29; have q8 := q8.symm; have q7 := q7.symm; subst q8; subst q7
    exact absurd (by rw [blist_len] at c19; exact c19) e29
  · refine r_iconst (v := nI 1) dX2_bake_22 (by decide) ?_
    refine r_goto (tgt := 27) dX2_bake_23 (by decide) ?_
    refine g_st (st' := [.int (nB (ρ 2 ≠ 0))]) (by rw [← nB_t (p := ρ 2 ≠ 0) (fun z => c19 (by rw [blist_len]; exact z))]) ?_
    refine r_bipush (v := nI 101) dX2_bake_27 (by decide) ?_
    refine r_callSN (M' := mX1_demand) _ dX2_bake_29 q2154 q2155 rfl (lw_all_tbl q2156) q125 (by exact pl_X1_demand)  ((k_demand (p := ρ 2 ≠ 0) (c := 101) rfl (by decide) w0)) (by omega) (Nat.le_of_ble_eq_true rfl) (by omega) (by omega) rfl (Nat.le_of_ble_eq_true rfl) rfl (kV fun h29 n29 e29 => ?_) (fun q h' n' hx => r_out (by intro x hx; cases hx) (by obtain ⟨z1, rfl, rfl, rfl⟩ := hx; exact ⟨by unfold eBa; rw [if_neg (fun z => z e7), if_pos (Decidable.not_not.mp z1)]; decide, by unfold eBa; rw [if_neg (fun z => z e7), if_pos (Decidable.not_not.mp z1)]; exact cf_new⟩))
    obtain ⟨e29, q8, q7⟩ := e29; have q8 := q8.symm; have q7 := q7.symm; subst q8; subst q7
    refine r_aload0 dX2_bake_32 ?_
    refine f_X2_21_X2 dX2_bake_33 k4 ?_
    refine r_iload1 dX2_bake_36 ?_
    refine r_callF (M' := mJ4_get) _ dX2_bake_37 q1907 q468 q467 rfl q469 q471 q472 q470 q414 rfl (lw_all_tbl q473) q131 (by exact (⟨by decide, by decide, by decide +kernel⟩ : g_pl ⟨"java/util/List", "get", "(I)Ljava/lang/Object;"⟩ 1)) gc_J4 y3 ((z3 _)) (by omega) (Nat.le_of_ble_eq_true rfl) (by omega) (by omega) rfl (Nat.le_of_ble_eq_true rfl) rfl (kA fun r37 h37 n37 t37 e37 => ?_) kN
    obtain ⟨q9, q8, q7⟩ := e37; have q9 := q9.symm; have q8 := q8.symm; have q7 := q7.symm; subst q9; subst q8; subst q7
    refine r_checkcast dX2_bake_42 gc_X7 q1647 (Or.inl rfl) z1 ?_
    refine f_X2_88_X7 dX2_bake_45 z1 ?_
    refine r_istore2 dX2_bake_48 ?_
    refine r_iload2 dX2_bake_49 ?_
    refine r_if_leN (tgt := 57) dX2_bake_50 (by decide) (by omega) (fun c50 => ?_) (fun c50 => ?_)
    · refine r_iconst (v := nI 0) dX2_bake_57 (by decide) ?_
      refine g_st (st' := [.int (nB (ρ (23 + 2 * i) ≠ 0))]) (by rw [← nB_f (p := ρ (23 + 2 * i) ≠ 0) (by omega)]) ?_
      refine r_bipush (v := nI 117) dX2_bake_58 (by decide) ?_
      refine r_callSN (M' := mX1_demand) _ dX2_bake_60 q2154 q2155 rfl (lw_all_tbl q2156) q125 (by exact pl_X1_demand)  ((k_demand (p := ρ (23 + 2 * i) ≠ 0) (c := 117) rfl (by decide) w0)) (by omega) (Nat.le_of_ble_eq_true rfl) (by omega) (by omega) rfl (Nat.le_of_ble_eq_true rfl) rfl (kV fun h60 n60 e60 => ?_) (fun q h' n' hx => r_out (by intro x hx; cases hx) (by obtain ⟨z1, rfl, rfl, rfl⟩ := hx; exact ⟨by unfold eBa; rw [if_neg (fun z => z e7), if_neg e29, i3, if_pos (Decidable.not_not.mp z1)]; decide, by unfold eBa; rw [if_neg (fun z => z e7), if_neg e29, i3, if_pos (Decidable.not_not.mp z1)]; exact cf_new⟩))
      obtain ⟨e60, q8, q7⟩ := e60; have q8 := q8.symm; have q7 := q7.symm; subst q8; subst q7
      exact absurd (by omega) e60
    · refine r_iconst (v := nI 1) dX2_bake_53 (by decide) ?_
      refine r_goto (tgt := 58) dX2_bake_54 (by decide) ?_
      refine g_st (st' := [.int (nB (ρ (23 + 2 * i) ≠ 0))]) (by rw [← nB_t (p := ρ (23 + 2 * i) ≠ 0) (by omega)]) ?_
      refine r_bipush (v := nI 117) dX2_bake_58 (by decide) ?_
      refine r_callSN (M' := mX1_demand) _ dX2_bake_60 q2154 q2155 rfl (lw_all_tbl q2156) q125 (by exact pl_X1_demand)  ((k_demand (p := ρ (23 + 2 * i) ≠ 0) (c := 117) rfl (by decide) w0)) (by omega) (Nat.le_of_ble_eq_true rfl) (by omega) (by omega) rfl (Nat.le_of_ble_eq_true rfl) rfl (kV fun h60 n60 e60 => ?_) (fun q h' n' hx => r_out (by intro x hx; cases hx) (by obtain ⟨z1, rfl, rfl, rfl⟩ := hx; exact ⟨by unfold eBa; rw [if_neg (fun z => z e7), if_neg e29, i3, if_pos (Decidable.not_not.mp z1)]; decide, by unfold eBa; rw [if_neg (fun z => z e7), if_neg e29, i3, if_pos (Decidable.not_not.mp z1)]; exact cf_new⟩))
      obtain ⟨e60, q8, q7⟩ := e60; have q8 := q8.symm; have q7 := q7.symm; subst q8; subst q7
      exact main i i1 rfl i3 e29 e60
end
