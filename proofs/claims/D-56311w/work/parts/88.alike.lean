/-! the checks: doughs, shares, the bakery -/
set_option maxRecDepth 100000
theorem srt_ex {ρ : Nat → Nat} {c : Nat} : ∀ j, j ≤ 8 → ∃ I : List Nat, I.Perm (List.range j) ∧ I.Pairwise fun a b => rky ρ c a < rky ρ c b := by
  intro j
  induction j with
  | zero => intro _; exact ⟨[], List.Perm.refl _, List.Pairwise.nil⟩
  | succ j ih =>
    intro hj
    obtain ⟨I, T2, T3⟩ := ih (by omega)
    have lt : ∀ i ∈ I, i < j := fun i hi => List.mem_range.mp (T2.mem_iff.mp hi)
    obtain ⟨I1, I2, rfl, s1, s2⟩ := srt_split (k := j) T3 (fun i hi e => by have := lt i hi; have := rky_inj (by omega) (by omega) e; omega)
    obtain ⟨p1, p2, p3⟩ := List.pairwise_append.mp T3
    refine ⟨I1 ++ j :: I2, List.perm_middle.trans ((T2.cons j).trans (by rw [List.range_succ]; exact (List.perm_append_singleton j _).symm)), List.pairwise_append.mpr ⟨p1, List.pairwise_cons.mpr ⟨fun x hx => s2 x hx, p2⟩, fun x hx y hy => ?_⟩⟩
    rcases List.mem_cons.mp hy with rfl | hy
    · exact s1 x hx
    · exact p3 x hx y hy
theorem sm_min {L : Nat} : ∀ n, sm (fun r => if r < L then 1 else 0) n = min L n := by
  intro n
  induction n with
  | zero => show 0 = _; omega
  | succ n ih =>
    show sm _ n + (if n < L then 1 else 0) = _
    rw [ih]
    split <;> omega
theorem ahd_cnt {ρ : Nat → Nat} {c n L : Nat} (h8 : n ≤ 8) : sm (fun i => if ahd ρ c i n < L then 1 else 0) n = min L n := by
  obtain ⟨I, hp, hs⟩ := srt_ex (ρ := ρ) (c := c) n h8
  have hl := hp.length_eq
  rw [List.length_range] at hl
  have e : I.map (fun i => ahd ρ c i n) = List.range n := by
    apply List.ext_getElem?
    intro r
    rw [List.getElem?_map]
    by_cases hr : r < n
    · have h1 : I[r]? = some I[r] := List.getElem?_eq_getElem (by omega)
      have h2 : (List.range n)[r]? = some r := by simp [hr]
      rw [h1, h2, Option.map_some, ahd_pos h8 hp hs h1]
    · rw [List.getElem?_eq_none (by omega), List.getElem?_eq_none (by simp; omega)]
      rfl
  rw [← sm_min, sm_cnt, sm_cnt, ← hp.countP_eq, ← e, List.countP_map]
  rfl
theorem shr_sum {ρ : Nat → Nat} {c : Nat} (h0 : 0 < ρ 2) (h8 : ρ 2 ≤ 8) (hw : 0 < wts ρ) : sm (fun i => shr ρ c i) (ρ 2) = c := by
  have e1 : sm (fun i => shr ρ c i) (ρ 2) = sm (qt ρ c) (ρ 2) + min (c - sm (qt ρ c) (ρ 2)) (ρ 2) := by
    rw [← ahd_cnt (ρ := ρ) (c := c) h8, ← sm_add]
    rfl
  have e2 : c * wts ρ = wts ρ * sm (qt ρ c) (ρ 2) + sm (rs ρ c) (ρ 2) := by
    rw [← sm_mul, ← sm_add, wts, ← sm_mul]
    refine sm_ext fun k _ => ?_
    exact (Nat.div_add_mod _ _).symm
  have e3 : sm (rs ρ c) (ρ 2) ≤ ρ 2 * (wts ρ - 1) := sm_ub fun k _ => by
    have : rs ρ c k < wts ρ := Nat.mod_lt _ hw
    omega
  have e4 : ρ 2 * (wts ρ - 1) < wts ρ * ρ 2 := by
    rw [Nat.mul_comm]
    exact Nat.mul_lt_mul_of_pos_right (by omega) h0
  have e5 : wts ρ * c = c * wts ρ := Nat.mul_comm _ _
  have e6 : c < sm (qt ρ c) (ρ 2) + ρ 2 := by
    refine Nat.lt_of_mul_lt_mul_left (a := wts ρ) ?_
    rw [Nat.mul_add]
    omega
  have e7 : sm (qt ρ c) (ρ 2) ≤ c := by
    refine Nat.le_of_mul_le_mul_left (c := wts ρ) ?_ hw
    omega
  rw [e1]
  omega
section
variable {K : g_K} {W : c_W} {A : Nat → Nat} {lo hi b t l e n u : Nat} {ρ : Nat → Nat} {α : Nat → Int64} {h h' : g_P}
theorem k_areDoughsAlike (w0 : cOK K W) (wl : lOK K A) (k : bk K W lo n b ρ α h) (w : wB u ρ) : g_Met K mX2_areDoughsAlike 8 50 180 [.ref b] h n (gI fun r h' n' => r = nI 1 ∧ stab n h n' h' ∧ n' ≤ n + 50) gN := by
  refine g_Met.facts fun f1 f2 f3 => ?_
  have wb := w.b
  have k0 := k
  obtain ⟨k1, k2, k3, t, lb, eb, ll, el, k4, k5, k6, k7, k8⟩ := k
  obtain ⟨N, F, mc, dm, dN, dR⟩ := k5.dM
  have dt : k_b K ≤ t := Nat.le_trans k1 dR.1
  have outer : ∀ (g j : Nat) (o3 o4 o5 o6 : Option Value) (h1 : g_P) (n1 it : Nat), j + g = ρ 0 → g_c1 o3 → g_c1 o4 → g_c1 o5 → g_c1 o6 → stab n h n1 h1 → n1 ≤ n + 2 + 8 * j → n ≤ it → it < n1 → dIt K W t ρ N F mc j it h1 → g_G K mX2_areDoughsAlike 8 (8 * g) (29 * g) (gI fun r h' n' => r = nI 1 ∧ stab n h n' h' ∧ n' ≤ n + 50) gN 15 [some (.ref b), some (.int (nI 1)), some (.ref it), o3, o4, o5, o6] [] h1 n1 := by
    intro g
    induction g with
    | zero =>
      intro j o3 o4 o5 o6 h1 n1 it hj c3 c4 c5 c6 st hn hit hit2 d
      obtain ⟨vs, hc⟩ := d.cell
      refine r_aload2 dX2_areDoughsAlike_15 ?_
      refine r_callF (M' := mJ25_hasNext) _ dX2_areDoughsAlike_16 q1644 q1357 q1356 rfl q1391 q1393 q1394 q1392 q1390 rfl (lw_all_tbl q1395) q158 (by exact (⟨by decide, by decide, by decide +kernel⟩ : g_pl ⟨"java/util/Iterator", "hasNext", "()Z"⟩ 0)) gc_J26 hc ((k_dHas d)) (by omega) (Nat.le_of_ble_eq_true rfl) (by omega) (by omega) rfl (Nat.le_of_ble_eq_true rfl) rfl (kI fun r16 h16 n16 e16 => ?_) kN
      obtain ⟨q9, q8, q7⟩ := e16; have q9 := q9.symm; have q8 := q8.symm; have q7 := q7.symm; subst q9; subst q8; subst q7
      refine r_if_eqB (tgt := 154) dX2_areDoughsAlike_21 (by decide) (fun c21 => ?_) (fun c21 => absurd c21 (by omega))
      refine r_iload1 dX2_areDoughsAlike_154 ?_
      exact r_ireturn dX2_areDoughsAlike_155 rfl (by first | exact nB_nar | rfl) (⟨rfl, st, by omega⟩)
    | succ g ih =>
      intro j o3 o4 o5 o6 h1 n1 it hj c3 c4 c5 c6 st hn hit hit2 d
      obtain ⟨vs, hc⟩ := d.cell
      have hjl : j < ρ 0 := by omega
      have wj := w.d hjl
      have inner : ∀ (f i : Nat) (o5 o6 : Option Value) (h2 : g_P) (n2 it2 : Nat), i + f = ρ 0 → g_c1 o5 → g_c1 o6 → stab n h n2 h2 → n2 ≤ n + 4 + 8 * j + i → n1 ≤ it2 → it2 < n2 → dIt K W t ρ N F mc (j + 1) it h2 → dIt K W t ρ N F mc i it2 h2 → g_G K mX2_areDoughsAlike 8 (8 * g + f) (29 * g + 4 * f) (gI fun r h' n' => r = nI 1 ∧ stab n h n' h' ∧ n' ≤ n + 50) gN 74 [some (.ref b), some (.int (nI 1)), some (.ref it), some (.int (nI j)), some (.ref it2), o5, o6] [] h2 n2 := by
        intro f
        induction f with
        | zero =>
          intro i o5 o6 h2 n2 it2 hi c5 c6 st2 hn2 b1 b2 d1 d2
          have : i = ρ 0 := by omega
          subst this
          obtain ⟨vs2, hc2⟩ := d2.cell
          refine r_aload4 dX2_areDoughsAlike_74 ?_
          refine r_callF (M' := mJ25_hasNext) _ dX2_areDoughsAlike_76 q1644 q1357 q1356 rfl q1391 q1393 q1394 q1392 q1390 rfl (lw_all_tbl q1395) q158 (by exact (⟨by decide, by decide, by decide +kernel⟩ : g_pl ⟨"java/util/Iterator", "hasNext", "()Z"⟩ 0)) gc_J26 hc2 ((k_dHas d2)) (by omega) (Nat.le_of_ble_eq_true rfl) (by omega) (by omega) rfl (Nat.le_of_ble_eq_true rfl) rfl (kI fun r76 h76 n76 e76 => ?_) kN
          obtain ⟨q9, q8, q7⟩ := e76; have q9 := q9.symm; have q8 := q8.symm; have q7 := q7.symm; subst q9; subst q8; subst q7
          refine r_if_eqB (tgt := 151) dX2_areDoughsAlike_81 (by decide) (fun c81 => ?_) (fun c81 => absurd c81 (by omega))
          refine r_goto (tgt := 15) dX2_areDoughsAlike_151 (by decide) ?_
          exact ih (j + 1) _ _ _ _ _ _ _ (by omega) g_c1i g_c1r c5 c6 st2 (by omega) hit (by omega) d1
        | succ f ihf =>
          intro i o5 o6 h2 n2 it2 hi c5 c6 st2 hn2 b1 b2 d1 d2
          have hil : i < ρ 0 := by omega
          have wi := w.d hil
          have bw1 : ρ (10 + 2 * j) * ρ (11 + 2 * i) ≤ 9999 * 12 := Nat.mul_le_mul wj.1 wi.2.2.1
          have bw2 : ρ (11 + 2 * j) * ρ (10 + 2 * i) ≤ 12 * 9999 := Nat.mul_le_mul wj.2.2.1 wi.1
          obtain ⟨vs2, hc2⟩ := d2.cell
          refine r_aload4 dX2_areDoughsAlike_74 ?_
          refine r_callF (M' := mJ25_hasNext) _ dX2_areDoughsAlike_76 q1644 q1357 q1356 rfl q1391 q1393 q1394 q1392 q1390 rfl (lw_all_tbl q1395) q158 (by exact (⟨by decide, by decide, by decide +kernel⟩ : g_pl ⟨"java/util/Iterator", "hasNext", "()Z"⟩ 0)) gc_J26 hc2 ((k_dHas d2)) (by omega) (Nat.le_of_ble_eq_true rfl) (by omega) (by omega) rfl (Nat.le_of_ble_eq_true rfl) rfl (kI fun r76 h76 n76 e76 => ?_) kN
          obtain ⟨q9, q8, q7⟩ := e76; have q9 := q9.symm; have q8 := q8.symm; have q7 := q7.symm; subst q9; subst q8; subst q7
          refine r_if_eqB (tgt := 151) dX2_areDoughsAlike_81 (by decide) (fun c81 => absurd c81 (by omega)) (fun c81 => ?_)
          refine r_aload4 dX2_areDoughsAlike_84 ?_
          refine r_callF (M' := mJ26_next) _ dX2_areDoughsAlike_86 q1646 q1399 q1398 rfl q1532 q1534 q1535 q1533 q1390 rfl (lw_all_tbl q1536) q159 (by exact (⟨by decide, by decide, by decide +kernel⟩ : g_pl ⟨"java/util/Iterator", "next", "()Ljava/lang/Object;"⟩ 0)) gc_J26 hc2 ((k_dNext d2 (by omega) hil)) (by omega) (Nat.le_of_ble_eq_true rfl) (by omega) (by omega) rfl (Nat.le_of_ble_eq_true rfl) rfl (kA fun r86 h86 n86 t86 e86 => ?_) kN
          obtain ⟨rfl, d3, y1, rfl⟩ := e86
          have st3 := st2.upd f2 (by omega) ⟨_, hc2⟩ y1
          have d4 := d1.keep (h' := h86) (y1 _ (by have := dR.2; omega)) (fun i hi => y1 _ (by have := dN i hi; omega)) (fun q vs z1 => y1 q fun z => by rw [z, hc2] at z1; exact absurd (obj_inj z1) (by decide)) (y1 _ (by omega))
          refine g_facts fun g1 g2 g3 => ?_
          have kk := k0.stab st3 (Nat.le_refl _)
          have k44 := st3.ob k4 (by decide)
          have st6 := stab.eq (n := n86) (n' := n86 + 1) (h := h86) (h' := g_up h86 n86 (nrO (ρ (10 + 2 * j) * ρ (11 + 2 * i)) (ρ (11 + 2 * j) * ρ (10 + 2 * i)))) (Nat.le_succ _) g2 (fun q hq => g_un (by omega))
          refine r_checkcast dX2_areDoughsAlike_91 gc_J14 q1768 (Or.inl rfl) (w0.i g3 (by omega)) ?_
          refine r_callV (M' := mJ14_intValue) _ dX2_areDoughsAlike_94 q1769 q1770 q1771 rfl (lw_all_tbl q1772) q144 (by exact pl_J14_intValue) gc_J14 (w0.i g3 (by omega)) ((k_intValue (w0.i g3 (by omega)) rfl)) (by omega) (Nat.le_of_ble_eq_true rfl) (by omega) (by omega) rfl (Nat.le_of_ble_eq_true rfl) rfl (kI fun r94 h94 n94 e94 => ?_) kN
          obtain ⟨q9, q8, q7⟩ := e94; have q9 := q9.symm; have q8 := q8.symm; have q7 := q7.symm; subst q9; subst q8; subst q7
          refine r_istore5 dX2_areDoughsAlike_97 ?_
          refine r_aload0 dX2_areDoughsAlike_99 ?_
          refine r_iload3 dX2_areDoughsAlike_100 ?_
          refine r_iload5 dX2_areDoughsAlike_101 ?_
          refine r_callV (M' := mX2_nearness) _ dX2_areDoughsAlike_103 q1850 q1851 q1852 rfl (lw_all_tbl q1853) q126 (by exact pl_X2_nearness) gc_X2 k44 ((k_nearness2 (hi := 0) (t := 0) w0 kk w hjl hil)) (by omega) (Nat.le_of_ble_eq_true rfl) (by omega) (by omega) rfl (Nat.le_of_ble_eq_true rfl) rfl (kA fun r103 h103 n103 t103 e103 => ?_) kN
          obtain ⟨q9, q8, q7⟩ := e103; have q9 := q9.symm; have q8 := q8.symm; have q7 := q7.symm; subst q9; subst q8; subst q7
          refine r_astore6 dX2_areDoughsAlike_106 ?_
          refine r_iload1 dX2_areDoughsAlike_108 ?_
          refine r_if_eqN (tgt := 146) dX2_areDoughsAlike_109 (by decide) (by omega) (fun c109 => absurd c109 (by omega)) (fun c109 => ?_)
          refine r_aload6 dX2_areDoughsAlike_112 ?_
          refine f_X2_261_X11 dX2_areDoughsAlike_114 g_us ?_
          refine r_lconst (v := lN 0) dX2_areDoughsAlike_117 (by decide) ?_
          refine r_lcmp dX2_areDoughsAlike_118 rfl ?_
          have hb0 : ¬ lg_cmp (lN (ρ (11 + 2 * j) * ρ (10 + 2 * i))) (lN 0) = 0 → 0 < ρ (11 + 2 * j) * ρ (10 + 2 * i) := fun z => by
            have := mt (lc_eq (by omega) (by decide)).mpr z
            omega
          refine r_if_eq (tgt := 142) dX2_areDoughsAlike_119 (by decide) (fun c119 => ?_) (fun c119 => ?_)
          · refine r_iconst (v := nI 1) dX2_areDoughsAlike_142 (by decide) ?_
            refine r_goto (tgt := 147) dX2_areDoughsAlike_143 (by decide) ?_
            refine r_istore1 dX2_areDoughsAlike_147 ?_
            refine r_goto (tgt := 74) dX2_areDoughsAlike_148 (by decide) ?_
            exact ihf (i + 1) _ _ _ _ it2 (by omega) g_c1i g_c1r (st3.tr st6) (by omega) b1 (by omega) (d4.stab st6) (d3.stab st6)
          · refine r_aload6 dX2_areDoughsAlike_122 ?_
            refine r_bipush (v := nI 20) dX2_areDoughsAlike_124 (by decide) ?_
            refine r_iconst (v := nI 0) dX2_areDoughsAlike_126 (by decide) ?_
            refine r_callV (M' := mX11_byHalves) _ dX2_areDoughsAlike_127 q1869 q1870 q1871 rfl (lw_all_tbl q1872) q181 (by exact pl_X11_byHalves) gc_X11 g_us ((k_byHalves g_us (by omega) (hb0 c119) (by omega) (by decide) (by decide) (by decide))) (by omega) (Nat.le_of_ble_eq_true rfl) (by omega) (by omega) rfl (Nat.le_of_ble_eq_true rfl) rfl (kJ fun r127 h127 n127 e127 => ?_) kN
            obtain ⟨q9, q8, q7⟩ := e127; have q9 := q9.symm; have q8 := q8.symm; have q7 := q7.symm; subst q9; subst q8; subst q7
            refine r_aload6 dX2_areDoughsAlike_130 ?_
            refine r_bipush (v := nI 20) dX2_areDoughsAlike_132 (by decide) ?_
            refine r_callV (M' := mX11_byTrying) _ dX2_areDoughsAlike_134 q1884 q1885 q1886 rfl (lw_all_tbl q1887) q181 (by exact pl_X11_byTrying) gc_X11 g_us ((k_byTrying g_us (by omega) (hb0 c119) (by omega) (by decide) (by decide))) (by omega) (Nat.le_of_ble_eq_true rfl) (by omega) (by omega) rfl (Nat.le_of_ble_eq_true rfl) rfl (kI fun r134 h134 n134 e134 => ?_) kN
            obtain ⟨q9, q8, q7⟩ := e134; have q9 := q9.symm; have q8 := q8.symm; have q7 := q7.symm; subst q9; subst q8; subst q7
            refine r_i2l dX2_areDoughsAlike_137 (i2l_nI (by have := trF_b (w := ρ (10 + 2 * j) * ρ (11 + 2 * i)) (b := ρ (11 + 2 * j) * ρ (10 + 2 * i)) 19; show trF _ _ 19 < _; omega)) ?_
            refine r_lcmp dX2_areDoughsAlike_138 rfl ?_
            refine r_if_ne (tgt := 146) dX2_areDoughsAlike_139 (by decide) (fun c139 => absurd c139 ((by rw [lg_cmp_eq]; exact fun z => z (by rw [if_pos rfl, (nrF_is (hb0 c119) (trF_is (hb0 c119) 19)).2])))) (fun c139 => ?_)
            refine r_iconst (v := nI 1) dX2_areDoughsAlike_142 (by decide) ?_
            refine r_goto (tgt := 147) dX2_areDoughsAlike_143 (by decide) ?_
            refine r_istore1 dX2_areDoughsAlike_147 ?_
            refine r_goto (tgt := 74) dX2_areDoughsAlike_148 (by decide) ?_
            exact ihf (i + 1) _ _ _ _ it2 (by omega) g_c1i g_c1r (st3.tr st6) (by omega) b1 (by omega) (d4.stab st6) (d3.stab st6)
      refine r_aload2 dX2_areDoughsAlike_15 ?_
      refine r_callF (M' := mJ25_hasNext) _ dX2_areDoughsAlike_16 q1644 q1357 q1356 rfl q1391 q1393 q1394 q1392 q1390 rfl (lw_all_tbl q1395) q158 (by exact (⟨by decide, by decide, by decide +kernel⟩ : g_pl ⟨"java/util/Iterator", "hasNext", "()Z"⟩ 0)) gc_J26 hc ((k_dHas d)) (by omega) (Nat.le_of_ble_eq_true rfl) (by omega) (by omega) rfl (Nat.le_of_ble_eq_true rfl) rfl (kI fun r16 h16 n16 e16 => ?_) kN
      obtain ⟨q9, q8, q7⟩ := e16; have q9 := q9.symm; have q8 := q8.symm; have q7 := q7.symm; subst q9; subst q8; subst q7
      refine r_if_eqB (tgt := 154) dX2_areDoughsAlike_21 (by decide) (fun c21 => absurd c21 (by omega)) (fun c21 => ?_)
      refine r_aload2 dX2_areDoughsAlike_24 ?_
      refine r_callF (M' := mJ26_next) _ dX2_areDoughsAlike_25 q1646 q1399 q1398 rfl q1532 q1534 q1535 q1533 q1390 rfl (lw_all_tbl q1536) q159 (by exact (⟨by decide, by decide, by decide +kernel⟩ : g_pl ⟨"java/util/Iterator", "next", "()Ljava/lang/Object;"⟩ 0)) gc_J26 hc ((k_dNext d (by omega) hjl)) (by omega) (Nat.le_of_ble_eq_true rfl) (by omega) (by omega) rfl (Nat.le_of_ble_eq_true rfl) rfl (kA fun r25 h25 n25 t25 e25 => ?_) kN
      obtain ⟨rfl, d3, y1, rfl⟩ := e25
      have st3 := st.upd f2 hit ⟨_, hc⟩ y1
      refine g_facts fun g1 g2 g3 => ?_
      have kk := k0.stab st3 (Nat.le_refl _)
      have k44 := st3.ob k4 (by decide)
      have k55 := k5.stab st3 (Nat.le_refl _)
      obtain ⟨tvs, hm⟩ := k55.cell
      refine r_checkcast dX2_areDoughsAlike_30 gc_J14 q1768 (Or.inl rfl) (w0.i g3 (by omega)) ?_
      refine r_callV (M' := mJ14_intValue) _ dX2_areDoughsAlike_33 q1769 q1770 q1771 rfl (lw_all_tbl q1772) q144 (by exact pl_J14_intValue) gc_J14 (w0.i g3 (by omega)) ((k_intValue (w0.i g3 (by omega)) rfl)) (by omega) (Nat.le_of_ble_eq_true rfl) (by omega) (by omega) rfl (Nat.le_of_ble_eq_true rfl) rfl (kI fun r33 h33 n33 e33 => ?_) kN
      obtain ⟨q9, q8, q7⟩ := e33; have q9 := q9.symm; have q8 := q8.symm; have q7 := q7.symm; subst q9; subst q8; subst q7
      refine r_istore3 dX2_areDoughsAlike_36 ?_
      refine r_iload1 dX2_areDoughsAlike_37 ?_
      refine r_if_eqN (tgt := 58) dX2_areDoughsAlike_38 (by decide) (by omega) (fun c38 => absurd c38 (by omega)) (fun c38 => ?_)
      refine r_aload0 dX2_areDoughsAlike_41 ?_
      refine r_iload3 dX2_areDoughsAlike_42 ?_
      refine r_callV (M' := mX2_crumbsIn) _ dX2_areDoughsAlike_43 q1773 q1774 q1775 rfl (lw_all_tbl q1776) q126 (by exact pl_X2_crumbsIn) gc_X2 k44 ((k_crumbsIn2 w0 wl kk w hjl)) (by omega) (Nat.le_of_ble_eq_true rfl) (by omega) (by omega) rfl (Nat.le_of_ble_eq_true rfl) rfl (kI fun r43 h43 n43 e43 => ?_) kN
      obtain ⟨q9, q8, q7⟩ := e43; have q9 := q9.symm; have q8 := q8.symm; have q7 := q7.symm; subst q9; subst q8; subst q7
      refine r_aload0 dX2_areDoughsAlike_46 ?_
      refine r_iload3 dX2_areDoughsAlike_47 ?_
      refine r_callV (M' := mX2_crumbsByDigits) _ dX2_areDoughsAlike_48 q1842 q1843 q1844 rfl (lw_all_tbl q1845) q126 (by exact pl_X2_crumbsByDigits) gc_X2 k44 ((k_crumbsByDigits2 w0 wl kk w hjl)) (by omega) (Nat.le_of_ble_eq_true rfl) (by omega) (by omega) rfl (Nat.le_of_ble_eq_true rfl) rfl (kI fun r48 h48 n48 e48 => ?_) kN
      obtain ⟨q9, q8, q7⟩ := e48; have q9 := q9.symm; have q8 := q8.symm; have q7 := q7.symm; subst q9; subst q8; subst q7
      refine r_icmp_ne (tgt := 58) dX2_areDoughsAlike_51 (by decide) (fun c51 => absurd c51 ((fun z => z rfl))) (fun c51 => ?_)
      refine r_iconst (v := nI 1) dX2_areDoughsAlike_54 (by decide) ?_
      refine r_goto (tgt := 59) dX2_areDoughsAlike_55 (by decide) ?_
      refine r_istore1 dX2_areDoughsAlike_59 ?_
      refine r_aload0 dX2_areDoughsAlike_60 ?_
      refine f_X2_12_X2 dX2_areDoughsAlike_61 k44 ?_
      refine r_callV (M' := mJ1_keySet) _ dX2_areDoughsAlike_64 q1680 q1681 q1682 rfl (lw_all_tbl q1683) q128 (by exact pl_J1_keySet) gc_J1 hm ((k_dKeys (dm.stab st3) dt)) (by omega) (Nat.le_of_ble_eq_true rfl) (by omega) (by omega) rfl (Nat.le_of_ble_eq_true rfl) rfl (kA fun r64 h64 n64 t64 e64 => ?_) kN
      obtain ⟨ks, rfl, a1, a3, a4, a5, a6⟩ := e64
      refine g_facts fun i1 i2 i3 => ?_
      refine r_callF (M' := mJ24_iterator) _ dX2_areDoughsAlike_67 q1702 q1704 q1703 rfl q1706 q1708 q1709 q1707 q1705 rfl (lw_all_tbl q1710) q157 (by exact (⟨by decide, by decide, by decide +kernel⟩ : g_pl ⟨"java/util/Set", "iterator", "()Ljava/util/Iterator;"⟩ 0)) gc_J24 a1 ((k_dIter ((dm.stab st3).stab a3) a1)) (by omega) (Nat.le_of_ble_eq_true rfl) (by omega) (by omega) rfl (Nat.le_of_ble_eq_true rfl) rfl (kA fun r67 h67 n67 t67 e67 => ?_) kN
      obtain ⟨rfl, d5, y5, rfl⟩ := e67
      have st5 := stab.eq (Nat.le_succ n64) i2 y5
      refine r_astore4 dX2_areDoughsAlike_72 ?_
      refine g_bud (bc' := 8 * g + ρ 0) (bs' := 29 * g + 4 * ρ 0) (by omega) (by omega) (Nat.le_refl _) (inner (ρ 0) 0 _ _ _ _ n64 (by omega) c5 c6 ((st3.tr a3).tr st5) (by omega) (by omega) (by omega) ((d3.stab a3).stab st5) d5)
  obtain ⟨tvs, hm⟩ := k5.cell
  refine g_Met.of (M := mX2_areDoughsAlike) (L := [some (.ref b), none, none, none, none, none, none]) (by decide +kernel) (Nat.le_of_ble_eq_true rfl) rfl ?_
  refine r_iconst (v := nI 1) dX2_areDoughsAlike_0 (by decide) ?_
  refine r_istore1 dX2_areDoughsAlike_1 ?_
  refine r_aload0 dX2_areDoughsAlike_2 ?_
  refine f_X2_12_X2 dX2_areDoughsAlike_3 k4 ?_
  refine r_callV (M' := mJ1_keySet) _ dX2_areDoughsAlike_6 q1680 q1681 q1682 rfl (lw_all_tbl q1683) q128 (by exact pl_J1_keySet) gc_J1 hm ((k_dKeys dm dt)) (by omega) (Nat.le_of_ble_eq_true rfl) (by omega) (by omega) rfl (Nat.le_of_ble_eq_true rfl) rfl (kA fun r6 h6 n6 t6 e6 => ?_) kN
  obtain ⟨ks, rfl, a1, a3, a4, a5, a6⟩ := e6
  refine g_facts fun i1 i2 i3 => ?_
  refine r_callF (M' := mJ24_iterator) _ dX2_areDoughsAlike_9 q1702 q1704 q1703 rfl q1706 q1708 q1709 q1707 q1705 rfl (lw_all_tbl q1710) q157 (by exact (⟨by decide, by decide, by decide +kernel⟩ : g_pl ⟨"java/util/Set", "iterator", "()Ljava/util/Iterator;"⟩ 0)) gc_J24 a1 ((k_dIter (dm.stab a3) a1)) (by omega) (Nat.le_of_ble_eq_true rfl) (by omega) (by omega) rfl (Nat.le_of_ble_eq_true rfl) rfl (kA fun r9 h9 n9 t9 e9 => ?_) kN
  obtain ⟨rfl, d5, y5, rfl⟩ := e9
  have st5 := stab.eq (Nat.le_succ n6) i2 y5
  refine r_astore2 dX2_areDoughsAlike_14 ?_
  refine g_bud (bc' := 8 * ρ 0) (bs' := 29 * ρ 0) (by omega) (by omega) (Nat.le_refl _) (outer (ρ 0) 0 none none none none _ _ n6 (by omega) g_c1n g_c1n g_c1n g_c1n (a3.tr st5) (by omega) a5 (by omega) d5)
/-! shares -/
theorem k_areSharesAlike (w0 : cOK K W) (k : bk K W lo n b ρ α h) (w : wB u ρ) {i : Nat} (hi : i < ρ 1) : g_Met K mX2_areSharesAlike 10 23 97 [.ref b, .int (nI i)] h n (gI fun r h' n' => r = nI 1 ∧ (∀ q : Nat, q < n → h' q = h q) ∧ n ≤ n' ∧ n' ≤ n + 23) gN := by
  refine g_Met.facts fun f1 f2 f3 => ?_
  have wb := w.b
  have wo := w.o hi
  have k0 := k
  obtain ⟨k1, k2, k3, t, lb, eb, ll, el, k4, k5, k6, k7, k8⟩ := k
  obtain ⟨b1, b2, b3, mb, B, b4, b5⟩ := id k7
  have lend : ρ 2 ≠ 0 → sm (fun i2 => shr ρ (ρ (23 + 2 * i)) i2) (ρ 2) = ρ (23 + 2 * i) := fun z => shr_sum (by omega) (by omega) (wts_p w (by omega))
  have loop : ∀ (g j z6 : Nat) (e n1 : Nat) (h1 : g_P), j + g = ρ 2 → z6 + sm (fun i2 => shr ρ (ρ (23 + 2 * i)) i2) j = ρ (23 + 2 * i) → (∀ q : Nat, q < n → h1 q = h q) → h1 n = some (shO ll (ρ (23 + 2 * i)) ρ) → h1 e = some (g_ar 0 (aI (ρ 2) (fun i2 => nI (shr ρ (ρ (23 + 2 * i)) i2)))) → n ≤ n1 → n1 ≤ n + 23 → g_G K mX2_areSharesAlike 10 0 0 (gI fun r h' n' => r = nI 1 ∧ (∀ q : Nat, q < n → h' q = h q) ∧ n ≤ n' ∧ n' ≤ n + 23) gN 35 [some (.ref b), some (.int (nI i)), some (.ref n), some (.ref e), some (.int (nI z6)), some (.int (nI 1)), some (.int (nI j))] [] h1 n1 := by
    intro g
    induction g with
    | zero =>
      intro j z6 e n1 h1 hj hz fr hs he hn1 hn2
      have : j = ρ 2 := by omega
      subst this
      have k44 := (fr _ (f2 _ _ k4)).trans k4
      have b4' := b4.of (h' := h1) (fr _ (by have := b1.2; omega)) (fr _ b3)
      refine r_iload6 dX2_areSharesAlike_35 ?_
      refine r_aload3 dX2_areSharesAlike_37 ?_
      refine r_arraylength dX2_areSharesAlike_38 ga_I he (by rw [aI_len]) ?_
      refine r_icmp_geN (tgt := 82) dX2_areSharesAlike_39 (by decide) (by omega) (by omega) (fun c39 => ?_) (fun c39 => absurd c39 (by omega))
      refine r_iload5 dX2_areSharesAlike_82 ?_
      refine r_if_eqN (tgt := 108) dX2_areSharesAlike_84 (by decide) (by omega) (fun c84 => absurd c84 (by omega)) (fun c84 => ?_)
      refine r_aload0 dX2_areSharesAlike_87 ?_
      refine f_X2_25_X2 dX2_areSharesAlike_88 k44 ?_
      refine r_callF (M' := mJ4_isEmpty) _ dX2_areSharesAlike_91 q2071 q2073 q2072 rfl q2074 q2076 q2077 q2075 q414 rfl (lw_all_tbl q2078) q131 (by exact (⟨by decide, by decide, by decide +kernel⟩ : g_pl ⟨"java/util/List", "isEmpty", "()Z"⟩ 0)) gc_J4 b4'.1 ((k_J4_isEmpty b4')) (by omega) (Nat.le_of_ble_eq_true rfl) (by omega) (by omega) rfl (Nat.le_of_ble_eq_true rfl) rfl (kI fun r91 h91 n91 e91 => ?_) kN
      obtain ⟨q9, q8, q7⟩ := e91; have q9 := q9.symm; have q8 := q8.symm; have q7 := q7.symm; subst q9; subst q8; subst q7
      refine r_if_neB (tgt := 104) dX2_areSharesAlike_96 (by decide) (fun c96 => ?_) (fun c96 => ?_)
      · refine r_iconst (v := nI 1) dX2_areSharesAlike_104 (by decide) ?_
        refine r_goto (tgt := 109) dX2_areSharesAlike_105 (by decide) ?_
        exact r_ireturn dX2_areSharesAlike_109 rfl (by first | exact nB_nar | rfl) (⟨rfl, fr, hn1, hn2⟩)
      · refine r_iload4 dX2_areSharesAlike_99 ?_
        refine r_if_neN (tgt := 108) dX2_areSharesAlike_101 (by decide) (by omega) (fun c101 => absurd c101 (by have := lend (fun z => c96 (by rw [blist_len]; exact z)); omega)) (fun c101 => ?_)
        refine r_iconst (v := nI 1) dX2_areSharesAlike_104 (by decide) ?_
        refine r_goto (tgt := 109) dX2_areSharesAlike_105 (by decide) ?_
        exact r_ireturn dX2_areSharesAlike_109 rfl (by first | exact nB_nar | rfl) (⟨rfl, fr, hn1, hn2⟩)
    | succ g ih =>
      intro j z6 e n1 h1 hj hz fr hs he hn1 hn2
      have kk := k7.keep fun q hq => fr q hq
      have es : sm (fun i2 => shr ρ (ρ (23 + 2 * i)) i2) (j + 1) = sm (fun i2 => shr ρ (ρ (23 + 2 * i)) i2) j + shr ρ (ρ (23 + 2 * i)) j := rfl
      have el : sm (fun i2 => shr ρ (ρ (23 + 2 * i)) i2) (j + 1) ≤ sm (fun i2 => shr ρ (ρ (23 + 2 * i)) i2) (ρ 2) := sm_mono (by omega)
      have e9 := lend (by omega)
      refine r_iload6 dX2_areSharesAlike_35 ?_
      refine r_aload3 dX2_areSharesAlike_37 ?_
      refine r_arraylength dX2_areSharesAlike_38 ga_I he (by rw [aI_len]) ?_
      refine r_icmp_geN (tgt := 82) dX2_areSharesAlike_39 (by decide) (by omega) (by omega) (fun c39 => absurd c39 (by omega)) (fun c39 => ?_)
      refine r_iload5 dX2_areSharesAlike_42 ?_
      refine r_if_eqN (tgt := 64) dX2_areSharesAlike_44 (by decide) (by omega) (fun c44 => absurd c44 (by omega)) (fun c44 => ?_)
      refine r_aload3 dX2_areSharesAlike_47 ?_
      refine r_iload6 dX2_areSharesAlike_48 ?_
      refine r_iaload (j) dX2_areSharesAlike_50 he rfl (by omega) (aI_at (by omega)) ?_
      refine r_aload2 dX2_areSharesAlike_51 ?_
      refine r_iload6 dX2_areSharesAlike_52 ?_
      refine r_callV (M' := mX9_shareByRanks) _ dX2_areSharesAlike_54 q2066 q2067 q2068 rfl (lw_all_tbl q2069) q178 (by exact pl_X9_shareByRanks) gc_X9 hs ((k_shareByRanks9 kk w (by omega) hs (by omega))) (by omega) (Nat.le_of_ble_eq_true rfl) (by omega) (by omega) rfl (Nat.le_of_ble_eq_true rfl) rfl (kI fun r54 h54 n54 e54 => ?_) kN
      obtain ⟨q9, q8, q7⟩ := e54; have q9 := q9.symm; have q8 := q8.symm; have q7 := q7.symm; subst q9; subst q8; subst q7
      refine r_icmp_ne (tgt := 64) dX2_areSharesAlike_57 (by decide) (fun c57 => absurd c57 ((fun z => z rfl))) (fun c57 => ?_)
      refine r_iconst (v := nI 1) dX2_areSharesAlike_60 (by decide) ?_
      refine r_goto (tgt := 65) dX2_areSharesAlike_61 (by decide) ?_
      refine r_istore5 dX2_areSharesAlike_65 ?_
      refine r_iload4 dX2_areSharesAlike_67 ?_
      refine r_aload3 dX2_areSharesAlike_69 ?_
      refine r_iload6 dX2_areSharesAlike_70 ?_
      refine r_iaload (j) dX2_areSharesAlike_72 he rfl (by omega) (aI_at (by omega)) ?_
      refine r_isub dX2_areSharesAlike_73 (pk_sub (by omega)) ?_
      refine r_istore4 dX2_areSharesAlike_74 ?_
      refine r_iinc6 dX2_areSharesAlike_76 (ii1 _) ?_
      refine r_goto (tgt := 35) dX2_areSharesAlike_79 (by decide) ?_
      exact ih (j + 1) _ e n1 _ (by omega) (by omega) fr hs he hn1 hn2
  refine g_Met.of (M := mX2_areSharesAlike) (L := [some (.ref b), some (.int (nI i)), none, none, none, none, none]) (by decide +kernel) (Nat.le_of_ble_eq_true rfl) rfl ?_
  refine r_aload0 dX2_areSharesAlike_0 ?_
  refine r_iload1 dX2_areSharesAlike_1 ?_
  refine r_callV (M' := mX2_sharing) _ dX2_areSharesAlike_2 q1900 q1901 q1902 rfl (lw_all_tbl q1903) q126 (by exact pl_X2_sharing) gc_X2 k4 ((k_sharing2 k0 w hi)) (by omega) (Nat.le_of_ble_eq_true rfl) (by omega) (by omega) rfl (Nat.le_of_ble_eq_true rfl) rfl (kA fun r2 h2 n2 t2 e2 => ?_) kN
  obtain ⟨rfl, ⟨t', lb', ll', q1, q2⟩, q3, rfl⟩ := e2
  obtain ⟨rfl, rfl, rfl⟩ := bkO_inj k4 q1
  refine r_astore2 dX2_areSharesAlike_5 ?_
  refine r_aload2 dX2_areSharesAlike_6 ?_
  refine r_callV (M' := mX9_shares) _ dX2_areSharesAlike_7 q1929 q1930 q1931 rfl (lw_all_tbl q1932) q178 (by exact pl_X9_shares) gc_X9 q2 ((k_shares w0 (k7.keep q3) (by omega) w (by omega) q2)) (by omega) (Nat.le_of_ble_eq_true rfl) (by omega) (by omega) rfl (Nat.le_of_ble_eq_true rfl) rfl (kA fun r7 h7 n7 t7 e7 => ?_) kN
  obtain ⟨e, rfl, a1, a2, a3, a4, a5, a6⟩ := e7
  have fr : ∀ q : Nat, q < n → h7 q = h q := fun q hq => (a4 q (by omega)).trans (q3 q hq)
  have k66 := k6.keep fr
  obtain ⟨y1, y2, y3⟩ := k66.cell
  obtain ⟨x, z1, z2, z3⟩ := k_getB (n := n7) k66 hi
  refine r_astore3 dX2_areSharesAlike_10 ?_
  refine r_aload0 dX2_areSharesAlike_11 ?_
  refine f_X2_21_X2 dX2_areSharesAlike_12 ((fr _ (f2 _ _ k4)).trans k4) ?_
  refine r_iload1 dX2_areSharesAlike_15 ?_
  refine r_callF (M' := mJ4_get) _ dX2_areSharesAlike_16 q1907 q468 q467 rfl q469 q471 q472 q470 q414 rfl (lw_all_tbl q473) q131 (by exact (⟨by decide, by decide, by decide +kernel⟩ : g_pl ⟨"java/util/List", "get", "(I)Ljava/lang/Object;"⟩ 1)) gc_J4 y3 (z3) (by omega) (Nat.le_of_ble_eq_true rfl) (by omega) (by omega) rfl (Nat.le_of_ble_eq_true rfl) rfl (kA fun r16 h16 n16 t16 e16 => ?_) kN
  obtain ⟨q9, q8, q7⟩ := e16; have q9 := q9.symm; have q8 := q8.symm; have q7 := q7.symm; subst q9; subst q8; subst q7
  refine r_checkcast dX2_areSharesAlike_21 gc_X7 q1647 (Or.inl rfl) z1 ?_
  refine f_X2_88_X7 dX2_areSharesAlike_24 z1 ?_
  refine r_istore4 dX2_areSharesAlike_27 ?_
  refine r_iconst (v := nI 1) dX2_areSharesAlike_29 (by decide) ?_
  refine r_istore5 dX2_areSharesAlike_30 ?_
  refine r_iconst (v := nI 0) dX2_areSharesAlike_32 (by decide) ?_
  refine r_istore6 dX2_areSharesAlike_33 ?_
  refine g_bud (bc' := 0) (bs' := 0) (by omega) (by omega) (Nat.le_refl _) (loop (ρ 2) 0 (ρ (23 + 2 * i)) e _ _ (by omega) rfl fr ((a4 _ (by omega)).trans q2) a3 (by omega) (by omega))
end
