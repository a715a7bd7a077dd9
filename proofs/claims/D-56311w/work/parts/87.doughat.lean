/-! the dough at a rank -/
set_option maxRecDepth 100000
theorem nI_lt' {x y : Nat} (hx : x < 2147483648) (hy : y < 2147483648) : nI x < nI y ↔ x < y := by
  rw [Int32.lt_iff_toInt_lt, nI_toInt hx, nI_toInt hy]
  omega
theorem nI_inj' {x y : Nat} (hx : x < 2147483648) (hy : y < 2147483648) : nI x = nI y ↔ x = y := by
  rw [← Int32.toInt_inj, nI_toInt hx, nI_toInt hy]
  omega
theorem cm_lt {x y : Nat} (hx : x < 2147483648) (hy : y < 2147483648) : cmI (nI x) (nI y) < 0 ↔ x < y := by
  unfold cmI
  by_cases c : x < y
  · rw [if_pos ((nI_lt' hx hy).mpr c)]
    exact ⟨fun _ => c, fun _ => by decide⟩
  · rw [if_neg (mt (nI_lt' hx hy).mp c)]
    split
    · exact ⟨fun z => absurd z (by decide), fun z => absurd z c⟩
    · exact ⟨fun z => absurd z (by decide), fun z => absurd z c⟩
theorem cm_0 {x y : Nat} (hx : x < 2147483648) (hy : y < 2147483648) : cmI (nI x) (nI y) = 0 ↔ x = y := by
  unfold cmI
  by_cases c : x < y
  · rw [if_pos ((nI_lt' hx hy).mpr c)]
    exact ⟨fun z => absurd z (by decide), fun z => by omega⟩
  · rw [if_neg (mt (nI_lt' hx hy).mp c)]
    by_cases c2 : x = y
    · rw [if_pos ((nI_inj' hx hy).mpr c2)]
      exact ⟨fun _ => c2, fun _ => rfl⟩
    · rw [if_neg (mt (nI_inj' hx hy).mp c2)]
      exact ⟨fun z => absurd z (by decide), fun z => absurd z c2⟩
section
variable {K : g_K} {W : c_W} {A : Nat → Nat} {lo hi b t l e n u : Nat} {ρ : Nat → Nat} {α : Nat → Int64} {h h' : g_P}
theorem k_doughAt2 (w0 : cOK K W) (k : bk K W lo n b ρ α h) (w : wB u ρ) {p : Int32} : g_Met K mX2_doughAt 6 14 70 [.ref b, .int p] h n (gI fun r h' n' => r = oI (dAt ρ p) ∧ stab n h n' h' ∧ n' ≤ n + 14) gN := by
  refine g_Met.facts fun f1 f2 f3 => ?_
  have wb := w.b
  obtain ⟨k1, k2, k3, t, lb, eb, ll, el, k4, k5, k6, k7, k8⟩ := k
  obtain ⟨N, F, mc, dm, dN, dR⟩ := k5.dM
  have dt : k_b K ≤ t := Nat.le_trans k1 dR.1
  have nb : ∀ i, i < ρ 0 → ∀ j, j < ρ 0 → ρ (10 + 2 * i) * ρ (11 + 2 * j) < 2147483648 := fun i hi j hj => by
    have q1 := w.d hi
    have q2 := w.d hj
    have : ρ (10 + 2 * i) * ρ (11 + 2 * j) ≤ 9999 * 12 := Nat.mul_le_mul q1.1 q2.2.2.1
    omega
  have outer : ∀ (g j : Nat) (o3 o4 o5 o6 o7 : Option Value) (h1 : g_P) (n1 it : Nat), j + g = ρ 0 → g_c1 o3 → g_c1 o4 → g_c1 o5 → g_c1 o6 → g_c1 o7 → stab n h n1 h1 → n1 ≤ n + 2 + 2 * j → n ≤ it → it < n1 → dIt K W t ρ N F mc j it h1 → dAt ρ p = fnd (fun a => nI (rkD ρ a (ρ 0)) = p) j g → g_G K mX2_doughAt 6 (2 * g) (5 * g) (gI fun r h' n' => r = oI (dAt ρ p) ∧ stab n h n' h' ∧ n' ≤ n + 14) gN 13 [some (.ref b), some (.int p), some (.ref it), o3, o4, o5, o6, o7] [] h1 n1 := by
    intro g
    induction g with
    | zero =>
      intro j o3 o4 o5 o6 o7 h1 n1 it hj c3 c4 c5 c6 c7 st hn hit hit2 d hf
      obtain ⟨vs, hc⟩ := d.cell
      refine r_aload2 dX2_doughAt_13 ?_
      refine r_callF (M' := mJ25_hasNext) _ dX2_doughAt_14 q1644 q1357 q1356 rfl q1391 q1393 q1394 q1392 q1390 rfl (lw_all_tbl q1395) q158 (by exact (⟨by decide, by decide, by decide +kernel⟩ : g_pl ⟨"java/util/Iterator", "hasNext", "()Z"⟩ 0)) gc_J26 hc ((k_dHas d)) (by omega) (Nat.le_of_ble_eq_true rfl) (by omega) (by omega) rfl (Nat.le_of_ble_eq_true rfl) rfl (kI fun r14 h14 n14 e14 => ?_) kN
      obtain ⟨q9, q8, q7⟩ := e14; have q9 := q9.symm; have q8 := q8.symm; have q7 := q7.symm; subst q9; subst q8; subst q7
      refine r_if_eqB (tgt := 151) dX2_doughAt_19 (by decide) (fun c19 => ?_) (fun c19 => absurd c19 (by omega))
      refine r_iconst (v := -1) dX2_doughAt_151 (by decide) ?_
      exact r_ireturn dX2_doughAt_152 rfl rfl (⟨by rw [hf]; rfl, st, by omega⟩)
    | succ g ih =>
      intro j o3 o4 o5 o6 o7 h1 n1 it hj c3 c4 c5 c6 c7 st hn hit hit2 d hf
      obtain ⟨vs, hc⟩ := d.cell
      have hjl : j < ρ 0 := by omega
      have inner : ∀ (f i : Nat) (o6 o7 : Option Value) (h2 : g_P) (n2 it2 : Nat), i + f = ρ 0 → g_c1 o6 → g_c1 o7 → stab n h n2 h2 → n2 ≤ n + 2 + 2 * (j + 1) → n1 ≤ it2 → it2 < n2 → dIt K W t ρ N F mc (j + 1) it h2 → dIt K W t ρ N F mc i it2 h2 → g_G K mX2_doughAt 6 (2 * g) (5 * g) (gI fun r h' n' => r = oI (dAt ρ p) ∧ stab n h n' h' ∧ n' ≤ n + 14) gN 52 [some (.ref b), some (.int p), some (.ref it), some (.int (nI j)), some (.int (nI (rkD ρ j i))), some (.ref it2), o6, o7] [] h2 n2 := by
        intro f
        induction f with
        | zero =>
          intro i o6 o7 h2 n2 it2 hi c6 c7 st2 hn2 b1 b2 d1 d2
          have : i = ρ 0 := by omega
          subst this
          obtain ⟨vs2, hc2⟩ := d2.cell
          refine r_aload5 dX2_doughAt_52 ?_
          refine r_callF (M' := mJ25_hasNext) _ dX2_doughAt_54 q1644 q1357 q1356 rfl q1391 q1393 q1394 q1392 q1390 rfl (lw_all_tbl q1395) q158 (by exact (⟨by decide, by decide, by decide +kernel⟩ : g_pl ⟨"java/util/Iterator", "hasNext", "()Z"⟩ 0)) gc_J26 hc2 ((k_dHas d2)) (by omega) (Nat.le_of_ble_eq_true rfl) (by omega) (by omega) rfl (Nat.le_of_ble_eq_true rfl) rfl (kI fun r54 h54 n54 e54 => ?_) kN
          obtain ⟨q9, q8, q7⟩ := e54; have q9 := q9.symm; have q8 := q8.symm; have q7 := q7.symm; subst q9; subst q8; subst q7
          refine r_if_eqB (tgt := 140) dX2_doughAt_59 (by decide) (fun c59 => ?_) (fun c59 => absurd c59 (by omega))
          refine r_iload4 dX2_doughAt_140 ?_
          refine r_iload1 dX2_doughAt_142 ?_
          refine r_icmp_ne (tgt := 148) dX2_doughAt_143 (by decide) (fun c143 => ?_) (fun c143 => ?_)
          · refine r_goto (tgt := 13) dX2_doughAt_148 (by decide) ?_
            exact ih (j + 1) _ _ _ _ _ _ _ _ (by omega) g_c1i g_c1i g_c1r c6 c7 st2 hn2 hit (by omega) d1 (by rw [hf, fnd_n c143])
          · refine r_iload3 dX2_doughAt_146 ?_
            exact r_ireturn dX2_doughAt_147 rfl rfl (⟨by rw [hf, fnd_y c143]; rfl, st2, by omega⟩)
        | succ f ihf =>
          intro i o6 o7 h2 n2 it2 hi c6 c7 st2 hn2 b1 b2 d1 d2
          have hil : i < ρ 0 := by omega
          obtain ⟨vs2, hc2⟩ := d2.cell
          have q1 := nb i hil j hjl
          have q2 := nb j hjl i hil
          refine r_aload5 dX2_doughAt_52 ?_
          refine r_callF (M' := mJ25_hasNext) _ dX2_doughAt_54 q1644 q1357 q1356 rfl q1391 q1393 q1394 q1392 q1390 rfl (lw_all_tbl q1395) q158 (by exact (⟨by decide, by decide, by decide +kernel⟩ : g_pl ⟨"java/util/Iterator", "hasNext", "()Z"⟩ 0)) gc_J26 hc2 ((k_dHas d2)) (by omega) (Nat.le_of_ble_eq_true rfl) (by omega) (by omega) rfl (Nat.le_of_ble_eq_true rfl) rfl (kI fun r54 h54 n54 e54 => ?_) kN
          obtain ⟨q9, q8, q7⟩ := e54; have q9 := q9.symm; have q8 := q8.symm; have q7 := q7.symm; subst q9; subst q8; subst q7
          refine r_if_eqB (tgt := 140) dX2_doughAt_59 (by decide) (fun c59 => absurd c59 (by omega)) (fun c59 => ?_)
          refine r_aload5 dX2_doughAt_62 ?_
          refine r_callF (M' := mJ26_next) _ dX2_doughAt_64 q1646 q1399 q1398 rfl q1532 q1534 q1535 q1533 q1390 rfl (lw_all_tbl q1536) q159 (by exact (⟨by decide, by decide, by decide +kernel⟩ : g_pl ⟨"java/util/Iterator", "next", "()Ljava/lang/Object;"⟩ 0)) gc_J26 hc2 ((k_dNext d2 (by omega) hil)) (by omega) (Nat.le_of_ble_eq_true rfl) (by omega) (by omega) rfl (Nat.le_of_ble_eq_true rfl) rfl (kA fun r64 h64 n64 t64 e64 => ?_) kN
          obtain ⟨rfl, d3, y1, rfl⟩ := e64
          have st3 := st2.upd f2 (by omega) ⟨_, hc2⟩ y1
          have d4 := d1.keep (h' := h64) (y1 _ (by have := dR.2; omega)) (fun i hi => y1 _ (by have := dN i hi; omega)) (fun q vs z1 => y1 q fun z => by rw [z, hc2] at z1; exact absurd (obj_inj z1) (by decide)) (y1 _ (by omega))
          refine g_facts fun g1 g2 g3 => ?_
          have k44 := st3.ob k4 (by decide)
          have k55 := k5.stab st3 (Nat.le_refl _)
          obtain ⟨tvs, hm⟩ := k55.cell
          obtain ⟨x, z1, z2, z3⟩ := k_getD (n := n64) w0 g3 k55 (by omega) hil
          obtain ⟨x2, z11, z12, z13⟩ := k_getD (n := n64) w0 g3 k55 (by omega) hjl
          refine r_checkcast dX2_doughAt_69 gc_J14 q1768 (Or.inl rfl) (w0.i g3 (by omega)) ?_
          refine r_callV (M' := mJ14_intValue) _ dX2_doughAt_72 q1769 q1770 q1771 rfl (lw_all_tbl q1772) q144 (by exact pl_J14_intValue) gc_J14 (w0.i g3 (by omega)) ((k_intValue (w0.i g3 (by omega)) rfl)) (by omega) (Nat.le_of_ble_eq_true rfl) (by omega) (by omega) rfl (Nat.le_of_ble_eq_true rfl) rfl (kI fun r72 h72 n72 e72 => ?_) kN
          obtain ⟨q9, q8, q7⟩ := e72; have q9 := q9.symm; have q8 := q8.symm; have q7 := q7.symm; subst q9; subst q8; subst q7
          refine r_istore6 dX2_doughAt_75 ?_
          refine r_aload0 dX2_doughAt_77 ?_
          refine f_X2_12_X2 dX2_doughAt_78 k44 ?_
          refine r_iload6 dX2_doughAt_81 ?_
          refine r_callS (M' := mJ14_valueOf) _ dX2_doughAt_83 q1777 q1778 rfl (lw_all_tbl q1779) q144 (by exact pl_J14_valueOf)  ((k_valueOf w0 (by omega))) (by omega) (Nat.le_of_ble_eq_true rfl) (by omega) (by omega) rfl (Nat.le_of_ble_eq_true rfl) rfl (kA fun r83 h83 n83 t83 e83 => ?_) kN
          obtain ⟨q9, q8, q7⟩ := e83; have q9 := q9.symm; have q8 := q8.symm; have q7 := q7.symm; subst q9; subst q8; subst q7
          refine r_callV (M' := mJ1_get) _ dX2_doughAt_86 q1796 q1797 q1798 rfl (lw_all_tbl q1799) q128 (by exact pl_J1_get) gc_J1 hm (z3) (by omega) (Nat.le_of_ble_eq_true rfl) (by omega) (by omega) rfl (Nat.le_of_ble_eq_true rfl) rfl (kA fun r86 h86 n86 t86 e86 => ?_) kN
          obtain ⟨q9, q8, q7⟩ := e86; have q9 := q9.symm; have q8 := q8.symm; have q7 := q7.symm; subst q9; subst q8; subst q7
          refine r_checkcast dX2_doughAt_89 gc_X6 q1816 (Or.inl rfl) z1 ?_
          refine r_aload0 dX2_doughAt_92 ?_
          refine f_X2_12_X2 dX2_doughAt_93 k44 ?_
          refine r_iload3 dX2_doughAt_96 ?_
          refine r_callS (M' := mJ14_valueOf) _ dX2_doughAt_97 q1777 q1778 rfl (lw_all_tbl q1779) q144 (by exact pl_J14_valueOf)  ((k_valueOf w0 (by omega))) (by omega) (Nat.le_of_ble_eq_true rfl) (by omega) (by omega) rfl (Nat.le_of_ble_eq_true rfl) rfl (kA fun r97 h97 n97 t97 e97 => ?_) kN
          obtain ⟨q9, q8, q7⟩ := e97; have q9 := q9.symm; have q8 := q8.symm; have q7 := q7.symm; subst q9; subst q8; subst q7
          refine r_callV (M' := mJ1_get) _ dX2_doughAt_100 q1796 q1797 q1798 rfl (lw_all_tbl q1799) q128 (by exact pl_J1_get) gc_J1 hm (z13) (by omega) (Nat.le_of_ble_eq_true rfl) (by omega) (by omega) rfl (Nat.le_of_ble_eq_true rfl) rfl (kA fun r100 h100 n100 t100 e100 => ?_) kN
          obtain ⟨q9, q8, q7⟩ := e100; have q9 := q9.symm; have q8 := q8.symm; have q7 := q7.symm; subst q9; subst q8; subst q7
          refine r_checkcast dX2_doughAt_103 gc_X6 q1816 (Or.inl rfl) z11 ?_
          refine r_callV (M' := mX6_compareTo_2) _ dX2_doughAt_106 q2629 q1011 q1012 rfl (lw_all_tbl q1013) q146 (by exact pl_X6_compareTo_2) gc_X6 z1 ((k_X6_compareTo_2 z1 z11)) (by omega) (Nat.le_of_ble_eq_true rfl) (by omega) (by omega) rfl (Nat.le_of_ble_eq_true rfl) rfl (kI fun r106 h106 n106 e106 => ?_) kN
          obtain ⟨q9, q8, q7⟩ := e106; have q9 := q9.symm; have q8 := q8.symm; have q7 := q7.symm; subst q9; subst q8; subst q7
          refine r_istore7 dX2_doughAt_109 ?_
          refine r_iload4 dX2_doughAt_111 ?_
          refine r_iload7 dX2_doughAt_113 ?_
          refine r_if_lt (tgt := 129) dX2_doughAt_115 (by decide) (fun c115 => ?_) (fun c115 => ?_)
          · refine r_iconst (v := nI 1) dX2_doughAt_129 (by decide) ?_
            refine r_goto (tgt := 134) dX2_doughAt_130 (by decide) ?_
            refine r_iadd dX2_doughAt_134 (show _ = nI (rkD ρ j (i + 1)) by rw [rkD_y (Or.inl ((cm_lt q2 q1).mp c115)), nI_add]) ?_
            refine r_istore4 dX2_doughAt_135 ?_
            refine r_goto (tgt := 52) dX2_doughAt_137 (by decide) ?_
            exact ihf (i + 1) _ _ _ _ it2 (by omega) g_c1i g_c1i st3 hn2 b1 b2 d4 d3
          · refine r_iload7 dX2_doughAt_118 ?_
            refine r_if_ne (tgt := 133) dX2_doughAt_120 (by decide) (fun c120 => ?_) (fun c120 => ?_)
            · refine r_iconst (v := nI 0) dX2_doughAt_133 (by decide) ?_
              refine r_iadd dX2_doughAt_134 (show _ = nI (rkD ρ j (i + 1)) by rw [rkD_n (fun z => by have y2 := mt (cm_lt q2 q1).mpr c115; have y3 := mt (cm_0 q2 q1).mpr c120; unfold dMo at z; omega), nI_add]) ?_
              refine r_istore4 dX2_doughAt_135 ?_
              refine r_goto (tgt := 52) dX2_doughAt_137 (by decide) ?_
              exact ihf (i + 1) _ _ _ _ it2 (by omega) g_c1i g_c1i st3 hn2 b1 b2 d4 d3
            · refine r_iload6 dX2_doughAt_123 ?_
              refine r_iload3 dX2_doughAt_125 ?_
              refine r_icmp_geN (tgt := 133) dX2_doughAt_126 (by decide) (by omega) (by omega) (fun c126 => ?_) (fun c126 => ?_)
              · refine r_iconst (v := nI 0) dX2_doughAt_133 (by decide) ?_
                refine r_iadd dX2_doughAt_134 (show _ = nI (rkD ρ j (i + 1)) by rw [rkD_n (fun z => by have y2 := mt (cm_lt q2 q1).mpr c115; unfold dMo at z; omega), nI_add]) ?_
                refine r_istore4 dX2_doughAt_135 ?_
                refine r_goto (tgt := 52) dX2_doughAt_137 (by decide) ?_
                exact ihf (i + 1) _ _ _ _ it2 (by omega) g_c1i g_c1i st3 hn2 b1 b2 d4 d3
              · refine r_iconst (v := nI 1) dX2_doughAt_129 (by decide) ?_
                refine r_goto (tgt := 134) dX2_doughAt_130 (by decide) ?_
                refine r_iadd dX2_doughAt_134 (show _ = nI (rkD ρ j (i + 1)) by rw [rkD_y (by have y2 := mt (cm_lt q2 q1).mpr c115; have y3 := (cm_0 q2 q1).mp c120; unfold dMo; omega), nI_add]) ?_
                refine r_istore4 dX2_doughAt_135 ?_
                refine r_goto (tgt := 52) dX2_doughAt_137 (by decide) ?_
                exact ihf (i + 1) _ _ _ _ it2 (by omega) g_c1i g_c1i st3 hn2 b1 b2 d4 d3
      refine r_aload2 dX2_doughAt_13 ?_
      refine r_callF (M' := mJ25_hasNext) _ dX2_doughAt_14 q1644 q1357 q1356 rfl q1391 q1393 q1394 q1392 q1390 rfl (lw_all_tbl q1395) q158 (by exact (⟨by decide, by decide, by decide +kernel⟩ : g_pl ⟨"java/util/Iterator", "hasNext", "()Z"⟩ 0)) gc_J26 hc ((k_dHas d)) (by omega) (Nat.le_of_ble_eq_true rfl) (by omega) (by omega) rfl (Nat.le_of_ble_eq_true rfl) rfl (kI fun r14 h14 n14 e14 => ?_) kN
      obtain ⟨q9, q8, q7⟩ := e14; have q9 := q9.symm; have q8 := q8.symm; have q7 := q7.symm; subst q9; subst q8; subst q7
      refine r_if_eqB (tgt := 151) dX2_doughAt_19 (by decide) (fun c19 => absurd c19 (by omega)) (fun c19 => ?_)
      refine r_aload2 dX2_doughAt_22 ?_
      refine r_callF (M' := mJ26_next) _ dX2_doughAt_23 q1646 q1399 q1398 rfl q1532 q1534 q1535 q1533 q1390 rfl (lw_all_tbl q1536) q159 (by exact (⟨by decide, by decide, by decide +kernel⟩ : g_pl ⟨"java/util/Iterator", "next", "()Ljava/lang/Object;"⟩ 0)) gc_J26 hc ((k_dNext d (by omega) hjl)) (by omega) (Nat.le_of_ble_eq_true rfl) (by omega) (by omega) rfl (Nat.le_of_ble_eq_true rfl) rfl (kA fun r23 h23 n23 t23 e23 => ?_) kN
      obtain ⟨rfl, d3, y1, rfl⟩ := e23
      have st3 := st.upd f2 hit ⟨_, hc⟩ y1
      refine g_facts fun g1 g2 g3 => ?_
      have k44 := st3.ob k4 (by decide)
      have k55 := k5.stab st3 (Nat.le_refl _)
      obtain ⟨tvs, hm⟩ := k55.cell
      refine r_checkcast dX2_doughAt_28 gc_J14 q1768 (Or.inl rfl) (w0.i g3 (by omega)) ?_
      refine r_callV (M' := mJ14_intValue) _ dX2_doughAt_31 q1769 q1770 q1771 rfl (lw_all_tbl q1772) q144 (by exact pl_J14_intValue) gc_J14 (w0.i g3 (by omega)) ((k_intValue (w0.i g3 (by omega)) rfl)) (by omega) (Nat.le_of_ble_eq_true rfl) (by omega) (by omega) rfl (Nat.le_of_ble_eq_true rfl) rfl (kI fun r31 h31 n31 e31 => ?_) kN
      obtain ⟨q9, q8, q7⟩ := e31; have q9 := q9.symm; have q8 := q8.symm; have q7 := q7.symm; subst q9; subst q8; subst q7
      refine r_istore3 dX2_doughAt_34 ?_
      refine r_iconst (v := nI 0) dX2_doughAt_35 (by decide) ?_
      refine r_istore4 dX2_doughAt_36 ?_
      refine r_aload0 dX2_doughAt_38 ?_
      refine f_X2_12_X2 dX2_doughAt_39 k44 ?_
      refine r_callV (M' := mJ1_keySet) _ dX2_doughAt_42 q1680 q1681 q1682 rfl (lw_all_tbl q1683) q128 (by exact pl_J1_keySet) gc_J1 hm ((k_dKeys (dm.stab st3) dt)) (by omega) (Nat.le_of_ble_eq_true rfl) (by omega) (by omega) rfl (Nat.le_of_ble_eq_true rfl) rfl (kA fun r42 h42 n42 t42 e42 => ?_) kN
      obtain ⟨ks, rfl, a1, a3, a4, a5, a6⟩ := e42
      refine g_facts fun i1 i2 i3 => ?_
      refine r_callF (M' := mJ24_iterator) _ dX2_doughAt_45 q1702 q1704 q1703 rfl q1706 q1708 q1709 q1707 q1705 rfl (lw_all_tbl q1710) q157 (by exact (⟨by decide, by decide, by decide +kernel⟩ : g_pl ⟨"java/util/Set", "iterator", "()Ljava/util/Iterator;"⟩ 0)) gc_J24 a1 ((k_dIter ((dm.stab st3).stab a3) a1)) (by omega) (Nat.le_of_ble_eq_true rfl) (by omega) (by omega) rfl (Nat.le_of_ble_eq_true rfl) rfl (kA fun r45 h45 n45 t45 e45 => ?_) kN
      obtain ⟨rfl, d5, y5, rfl⟩ := e45
      have st5 := stab.eq (Nat.le_succ n42) i2 y5
      refine r_astore5 dX2_doughAt_50 ?_
      refine inner (ρ 0) 0 _ _ _ _ n42 (by omega) c6 c7 ((st3.tr a3).tr st5) (by omega) (by omega) (by omega) ((d3.stab a3).stab st5) d5
  obtain ⟨tvs, hm⟩ := k5.cell
  refine g_Met.of (M := mX2_doughAt) (L := [some (.ref b), some (.int p), none, none, none, none, none, none]) (by decide +kernel) (Nat.le_of_ble_eq_true rfl) rfl ?_
  refine r_aload0 dX2_doughAt_0 ?_
  refine f_X2_12_X2 dX2_doughAt_1 k4 ?_
  refine r_callV (M' := mJ1_keySet) _ dX2_doughAt_4 q1680 q1681 q1682 rfl (lw_all_tbl q1683) q128 (by exact pl_J1_keySet) gc_J1 hm ((k_dKeys dm dt)) (by omega) (Nat.le_of_ble_eq_true rfl) (by omega) (by omega) rfl (Nat.le_of_ble_eq_true rfl) rfl (kA fun r4 h4 n4 t4 e4 => ?_) kN
  obtain ⟨ks, rfl, a1, a3, a4, a5, a6⟩ := e4
  refine g_facts fun i1 i2 i3 => ?_
  refine r_callF (M' := mJ24_iterator) _ dX2_doughAt_7 q1702 q1704 q1703 rfl q1706 q1708 q1709 q1707 q1705 rfl (lw_all_tbl q1710) q157 (by exact (⟨by decide, by decide, by decide +kernel⟩ : g_pl ⟨"java/util/Set", "iterator", "()Ljava/util/Iterator;"⟩ 0)) gc_J24 a1 ((k_dIter (dm.stab a3) a1)) (by omega) (Nat.le_of_ble_eq_true rfl) (by omega) (by omega) rfl (Nat.le_of_ble_eq_true rfl) rfl (kA fun r7 h7 n7 t7 e7 => ?_) kN
  obtain ⟨rfl, d5, y5, rfl⟩ := e7
  have st5 := stab.eq (Nat.le_succ n4) i2 y5
  refine r_astore2 dX2_doughAt_12 ?_
  refine g_bud (bc' := 2 * ρ 0) (bs' := 5 * ρ 0) (by omega) (by omega) (Nat.le_refl _) (outer (ρ 0) 0 none none none none none _ _ n4 (by omega) g_c1n g_c1n g_c1n g_c1n g_c1n (a3.tr st5) (by omega) a5 (by omega) d5 rfl)
end
