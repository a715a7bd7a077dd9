/-! isConsistent of a bakery -/
set_option maxRecDepth 100000
theorem sm_list {f : Nat → Nat} : ∀ n, sm f n = ((List.range n).map f).sum := by
  intro n
  induction n with
  | zero => rfl
  | succ n ih =>
    rw [List.range_succ, List.map_append, List.sum_append, ← ih]
    rfl
theorem sm_perm {g f : Nat → Nat} {I : List Nat} {n : Nat} (hp : I.Perm (List.range n)) (hf : ∀ r x, I[r]? = some x → f r = g x) : sm f n = sm g n := by
  have hl := hp.length_eq
  rw [List.length_range] at hl
  rw [sm_list, sm_list, ← (hp.map g).sum_nat]
  refine congrArg List.sum (List.ext_getElem? fun r => ?_)
  rw [List.getElem?_map, List.getElem?_map]
  by_cases hr : r < n
  · have h1 : I[r]? = some I[r] := List.getElem?_eq_getElem (by omega)
    have h2 : (List.range n)[r]? = some r := by simp [hr]
    rw [h1, h2, Option.map_some, Option.map_some, hf r _ h1]
  · rw [List.getElem?_eq_none (l := I) (by omega), List.getElem?_eq_none (l := List.range n) (by rw [List.length_range]; omega)]
    rfl
theorem grT_sm {ρ : Nat → Nat} {j : Nat} : ∀ k, grT ρ k j = sm (fun r => if frO (grT ρ r) (ρ 5 - 1) = j then ρ (33 + 3 * lAr ρ r) else 0) k := by
  intro k
  induction k with
  | zero => rfl
  | succ k ih =>
    show fup _ _ _ j = sm _ k + (if frO (grT ρ k) (ρ 5 - 1) = j then ρ (33 + 3 * lAr ρ k) else 0)
    rw [← ih]
    by_cases e : frO (grT ρ k) (ρ 5 - 1) = j
    · rw [if_pos e, e, fup_s]
    · rw [if_neg e, fup_n (Ne.symm e)]
      rfl
theorem grO_ld {ρ : Nat → Nat} (h8 : ρ 2 ≤ 8) (h5 : 1 ≤ ρ 5) (hr : ∀ r, r < ρ 2 → rkL ρ 1 (lAr ρ r) (ρ 2) = r) {I : List Nat} (hp : I.Perm (List.range (ρ 2))) (hI : ∀ r, r < ρ 2 → I[r]? = some (lAr ρ r)) : ∃ a : Nat → Nat, (∀ k, a k < ρ 5) ∧ grO ρ = lg3 (ldA ρ a (ρ 2)) := by
  refine ⟨fun k => frO (grT ρ (rkL ρ 1 k (ρ 2))) (ρ 5 - 1), fun k => ?_, ?_⟩
  · have := @frO_le (grT ρ (rkL ρ 1 k (ρ 2))) (ρ 5 - 1)
    show frO _ _ < _
    omega
  · have hl := hp.length_eq
    rw [List.length_range] at hl
    have e : grT ρ (ρ 2) = ldA ρ (fun k => frO (grT ρ (rkL ρ 1 k (ρ 2))) (ρ 5 - 1)) (ρ 2) := by
      funext j
      rw [grT_sm]
      refine sm_perm hp fun r x hx => ?_
      have hr2 : r < ρ 2 := by
        rcases Nat.lt_or_ge r (ρ 2) with c | c
        · exact c
        · rw [List.getElem?_eq_none (by omega)] at hx; cases hx
      have e2 : lAr ρ r = x := Option.some.inj ((hI r hr2).symm.trans hx)
      show _ = (if frO (grT ρ (rkL ρ 1 x (ρ 2))) (ρ 5 - 1) = j then ρ (33 + 3 * x) else 0)
      rw [← e2, hr r hr2]
    unfold grO
    rw [e]
theorem sht_gr {u : Nat} {ρ : Nat → Nat} (w : wB u ρ) : sht ρ ≤ grO ρ := by
  have wb := w.b
  have lb : ∀ i, i < ρ 2 → 1 ≤ ρ (33 + 3 * i) ∧ ρ (33 + 3 * i) ≤ 60 := fun i hi => ⟨(w.l hi).2.2.1, (w.l hi).2.2.2.1⟩
  obtain ⟨a, h1, h2⟩ := grO_ld (ρ := ρ) (by omega) (by omega) (fun r hr => by
    obtain ⟨a, q1, q2, q3⟩ := lAt_rk (w := 1) (r := r) (ρ := ρ) hr (by omega)
    have : lAr ρ r = a := by unfold lAr; rw [q1]; rfl
    rw [this]
    exact q3) (srM_all lb) (fun r hr => srM_at (by omega) lb hr)
  rw [h2]
  exact (isH_sht (by omega)).2 a h1
section
variable {K : g_K} {W : c_W} {A : Nat → Nat} {lo hi b t l e n u : Nat} {ρ : Nat → Nat} {α : Nat → Int64} {h h' : g_P}
theorem k_isConsistent2 (w0 : cOK K W) (wl : lOK K A) (k : bk K W lo n b ρ α h) (w : wB u ρ) : g_Met K mX2_isConsistent 13 245 1800 [.ref b] h n (gI fun r h' n' => r = nB (α 6 - α 7 - α 8 = lN (cts ρ + ilv ρ)) ∧ stab n h n' h' ∧ n' ≤ n + 245) gN := by
  refine g_Met.facts fun f1 f2 f3 => ?_
  have wb := w.b
  have k0 := k
  obtain ⟨k1, k2, k3, t, lb, eb, ll, el, k4, k5, k6, k7, k8⟩ := k
  have cb : cts ρ ≤ 49995 := cts_b w (Nat.le_refl _)
  have ib : ilv ρ ≤ 79992 * u := ilv_b w (Nat.le_refl _)
  have gg := sht_gr w
  have gb : grO ρ ≤ 60 * ρ 2 := lg3_b (fun j => grT_b w (ρ 2) (Nat.le_refl _) j)
  have loop : ∀ (g j : Nat) (v : Int32) (h1 : g_P) (n1 : Nat), j + g = ρ 1 → stab n h n1 h1 → n1 + 23 * g ≤ n + 243 → g_G K mX2_isConsistent 13 (23 * g + 2) (97 * g + 8) (gI fun r h' n' => r = nB (α 6 - α 7 - α 8 = lN (cts ρ + ilv ρ)) ∧ stab n h n' h' ∧ n' ≤ n + 245) gN 42 [some (.ref b), some (.ref n), some (.int v), some (.int (nI 1)), some (.int (nI j))] [] h1 n1 := by
    intro g
    induction g with
    | zero =>
      intro j v h1 n1 hj st hn
      have : j = ρ 1 := by omega
      subst this
      refine g_facts fun g1 g2 g3 => ?_
      have kk := k0.stab st (Nat.le_refl _)
      have k44 := st.ob k4 (by decide)
      have k66 := k6.stab st (Nat.le_refl _)
      obtain ⟨y1, y2, y3⟩ := k66.cell
      have fin : ∀ (h2 : g_P) (n2 : Nat), stab n h n2 h2 → n2 ≤ n + 245 → h2 b = some (bkO b t lb ll ρ α) → α 6 - α 7 - α 8 = lN (cts ρ + ilv ρ) → g_G K mX2_isConsistent 13 0 0 (gI fun r h' n' => r = nB (α 6 - α 7 - α 8 = lN (cts ρ + ilv ρ)) ∧ stab n h n' h' ∧ n' ≤ n + 245) gN 98 [some (.ref b), some (.ref n), some (.int v), some (.int (nI 1)), some (.int (nI (ρ 1)))] [] h2 n2 := by
        intro h2 n2 st2 hn2 k45 he
        refine r_aload0 dX2_isConsistent_98 ?_
        refine f_X2_114_X2 dX2_isConsistent_99 k45 ?_
        refine r_aload0 dX2_isConsistent_102 ?_
        refine f_X2_117_X2 dX2_isConsistent_103 k45 ?_
        refine r_ldc2 dX2_isConsistent_106 q2100 ?_
        refine r_aload0 dX2_isConsistent_109 ?_
        refine f_X2_104_X2 dX2_isConsistent_110 k45 ?_
        refine r_lmul dX2_isConsistent_113 rfl ?_
        refine r_lsub dX2_isConsistent_114 rfl ?_
        refine r_lcmp dX2_isConsistent_115 rfl ?_
        refine r_if_ne (tgt := 123) dX2_isConsistent_116 (by decide) (fun c116 => absurd c116 ((by rw [lg_cmp_eq]; exact fun z => z (Int64.add_sub_cancel _ _).symm))) (fun c116 => ?_)
        refine r_iconst (v := nI 1) dX2_isConsistent_119 (by decide) ?_
        refine r_goto (tgt := 124) dX2_isConsistent_120 (by decide) ?_
        exact r_ireturn dX2_isConsistent_124 rfl (by first | exact nB_nar | rfl) (⟨nB_t he, st2, hn2⟩)
      refine r_iload4 dX2_isConsistent_42 ?_
      refine r_aload0 dX2_isConsistent_44 ?_
      refine f_X2_21_X2 dX2_isConsistent_45 k44 ?_
      refine r_callF (M' := mJ4_size) _ dX2_isConsistent_48 q1895 q413 q412 rfl q415 q417 q418 q416 q414 rfl (lw_all_tbl q419) q131 (by exact (⟨by decide, by decide, by decide +kernel⟩ : g_pl ⟨"java/util/List", "size", "()I"⟩ 0)) gc_J4 y3 ((k_sizeB k66)) (by omega) (Nat.le_of_ble_eq_true rfl) (by omega) (by omega) rfl (Nat.le_of_ble_eq_true rfl) rfl (kI fun r48 h48 n48 e48 => ?_) kN
      obtain ⟨q9, q8, q7⟩ := e48; have q9 := q9.symm; have q8 := q8.symm; have q7 := q7.symm; subst q9; subst q8; subst q7
      refine r_icmp_geN (tgt := 81) dX2_isConsistent_53 (by decide) (by omega) (by omega) (fun c53 => ?_) (fun c53 => absurd c53 (by omega))
      refine r_iload3 dX2_isConsistent_81 ?_
      refine r_if_eqN (tgt := 123) dX2_isConsistent_82 (by decide) (by omega) (fun c82 => absurd c82 (by omega)) (fun c82 => ?_)
      refine r_aload0 dX2_isConsistent_85 ?_
      refine r_callV (M' := mX2_crumbs) _ dX2_isConsistent_86 q2098 q1638 q1639 rfl (lw_all_tbl q1640) q126 (by exact pl_X2_crumbs) gc_X2 k44 ((k_crumbs2 kk w)) (by omega) (Nat.le_of_ble_eq_true rfl) (by omega) (by omega) rfl (Nat.le_of_ble_eq_true rfl) rfl (kI fun r86 h86 n86 e86 => ?_) kN
      obtain ⟨rfl, y4, y5, y6⟩ := e86
      have st2 := st.tr (stab.eq y5 g2 y4)
      have k45 := st2.ob k4 (by decide)
      refine r_i2l dX2_isConsistent_89 (i2l_nI (by omega)) ?_
      refine r_aload0 dX2_isConsistent_90 ?_
      refine r_callV (M' := mX2_crumbsByAccounts) _ dX2_isConsistent_91 q2099 q1654 q1655 rfl (lw_all_tbl q1656) q126 (by exact pl_X2_crumbsByAccounts) gc_X2 k45 ((k_crumbsByAccounts2 (k0.stab st2 (Nat.le_refl _)))) (by omega) (Nat.le_of_ble_eq_true rfl) (by omega) (by omega) rfl (Nat.le_of_ble_eq_true rfl) rfl (kJ fun r91 h91 n91 e91 => ?_) kN
      obtain ⟨q9, q8, q7⟩ := e91; have q9 := q9.symm; have q8 := q8.symm; have q7 := q7.symm; subst q9; subst q8; subst q7
      refine r_lcmp dX2_isConsistent_94 rfl ?_
      refine r_if_ne (tgt := 123) dX2_isConsistent_95 (by decide) (fun c95 => ?_) (fun c95 => ?_)
      · refine r_iconst (v := nI 0) dX2_isConsistent_123 (by decide) ?_
        exact r_ireturn dX2_isConsistent_124 rfl (by first | exact nB_nar | rfl) (⟨nB_f (fun z => c95 ((lg_cmp_eq _ _).mpr z.symm)), st2, by omega⟩)
      · refine g_bud (bc' := 0) (bs' := 0) (by omega) (by omega) (Nat.le_refl _) (fin _ _ st2 (by omega) k45 ((lg_cmp_eq _ _).mp c95).symm)
    | succ g ih =>
      intro j v h1 n1 hj st hn
      refine g_facts fun g1 g2 g3 => ?_
      have kk := k0.stab st (Nat.le_refl _)
      have k44 := st.ob k4 (by decide)
      have k66 := k6.stab st (Nat.le_refl _)
      obtain ⟨y1, y2, y3⟩ := k66.cell
      refine r_iload4 dX2_isConsistent_42 ?_
      refine r_aload0 dX2_isConsistent_44 ?_
      refine f_X2_21_X2 dX2_isConsistent_45 k44 ?_
      refine r_callF (M' := mJ4_size) _ dX2_isConsistent_48 q1895 q413 q412 rfl q415 q417 q418 q416 q414 rfl (lw_all_tbl q419) q131 (by exact (⟨by decide, by decide, by decide +kernel⟩ : g_pl ⟨"java/util/List", "size", "()I"⟩ 0)) gc_J4 y3 ((k_sizeB k66)) (by omega) (Nat.le_of_ble_eq_true rfl) (by omega) (by omega) rfl (Nat.le_of_ble_eq_true rfl) rfl (kI fun r48 h48 n48 e48 => ?_) kN
      obtain ⟨q9, q8, q7⟩ := e48; have q9 := q9.symm; have q8 := q8.symm; have q7 := q7.symm; subst q9; subst q8; subst q7
      refine r_icmp_geN (tgt := 81) dX2_isConsistent_53 (by decide) (by omega) (by omega) (fun c53 => absurd c53 (by omega)) (fun c53 => ?_)
      refine r_iload3 dX2_isConsistent_56 ?_
      refine r_if_eqN (tgt := 73) dX2_isConsistent_57 (by decide) (by omega) (fun c57 => absurd c57 (by omega)) (fun c57 => ?_)
      refine r_aload0 dX2_isConsistent_60 ?_
      refine r_iload4 dX2_isConsistent_61 ?_
      refine r_callV (M' := mX2_areSharesAlike) _ dX2_isConsistent_63 q1896 q1898 qs20 rfl (lw_all_tbl q1899) q126 (by exact pl_X2_areSharesAlike) gc_X2 k44 ((k_areSharesAlike w0 kk w (by omega))) (by omega) (Nat.le_of_ble_eq_true rfl) (by omega) (by omega) rfl (Nat.le_of_ble_eq_true rfl) rfl (kI fun r63 h63 n63 e63 => ?_) kN
      obtain ⟨rfl, y4, y5, y6⟩ := e63
      refine r_if_eqN (tgt := 73) dX2_isConsistent_66 (by decide) (by omega) (fun c66 => absurd c66 (by omega)) (fun c66 => ?_)
      refine r_iconst (v := nI 1) dX2_isConsistent_69 (by decide) ?_
      refine r_goto (tgt := 74) dX2_isConsistent_70 (by decide) ?_
      refine r_istore3 dX2_isConsistent_74 ?_
      refine r_iinc4 dX2_isConsistent_75 (ii1 _) ?_
      refine r_goto (tgt := 42) dX2_isConsistent_78 (by decide) ?_
      refine g_bud (bc' := 23 * g + 2) (bs' := 97 * g + 8) (by omega) (by omega) (Nat.le_refl _) (ih (j + 1) _ _ _ (by omega) (st.tr (stab.eq y5 g2 y4)) (by omega))
  refine g_Met.of (M := mX2_isConsistent) (L := [some (.ref b), none, none, none, none]) (by decide +kernel) (Nat.le_of_ble_eq_true rfl) rfl ?_
  refine r_aload0 dX2_isConsistent_0 ?_
  refine r_callV (M' := mX2_baking) _ dX2_isConsistent_1 q1674 q439 q440 rfl (lw_all_tbl q441) q126 (by exact pl_X2_baking) gc_X2 k4 ((k_baking2 k0)) (by omega) (Nat.le_of_ble_eq_true rfl) (by omega) (by omega) rfl (Nat.le_of_ble_eq_true rfl) rfl (kA fun r1 h1 n1 t1 e1 => ?_) kN
  obtain ⟨rfl, ⟨t', lb', ll', q1, rfl⟩, rfl⟩ := e1
  obtain ⟨rfl, rfl, rfl⟩ := bkO_inj k4 q1
  have st1 := stab.eq (h' := g_up h n (baO ll' ρ)) (Nat.le_succ n) f2 (fun q hq => g_un (by omega))
  refine g_facts fun i1 i2 i3 => ?_
  refine r_astore1 dX2_isConsistent_4 ?_
  refine r_aload1 dX2_isConsistent_5 ?_
  refine r_callV (M' := mX12_shortest) _ dX2_isConsistent_6 q1675 q456 q457 rfl (lw_all_tbl q458) q182 (by exact pl_X12_shortest) gc_X12 g_us ((k_shortest12 (k7.keep (h' := g_up h n (baO ll' ρ)) fun q hq => g_un (by omega)) (Nat.le_succ n) w g_us)) (by omega) (Nat.le_of_ble_eq_true rfl) (by omega) (by omega) rfl (Nat.le_of_ble_eq_true rfl) rfl (kI fun r6 h6 n6 e6 => ?_) kN
  obtain ⟨rfl, y1, y2, y3⟩ := e6
  have st2 := st1.tr (stab.eq y2 i2 y1)
  have kk2 := k0.stab st2 (Nat.le_refl _)
  have nb2 : h6 n = some (baO ll' ρ) := (y1 n (by omega)).trans g_us
  refine r_istore2 dX2_isConsistent_9 ?_
  refine r_aload0 dX2_isConsistent_10 ?_
  refine r_callV (M' := mX2_areDoughsAlike) _ dX2_isConsistent_11 q1676 q1678 qs16 rfl (lw_all_tbl q1679) q126 (by exact pl_X2_areDoughsAlike) gc_X2 (st2.ob k4 (by decide)) ((k_areDoughsAlike w0 wl kk2 w)) (by omega) (Nat.le_of_ble_eq_true rfl) (by omega) (by omega) rfl (Nat.le_of_ble_eq_true rfl) rfl (kI fun r11 h11 n11 e11 => ?_) kN
  obtain ⟨rfl, y4, y5⟩ := e11
  have y4n := y4.1
  have st3 := st2.tr y4
  have nb3 := y4.ob nb2 (by decide)
  refine g_facts fun j1 j2 j3 => ?_
  refine r_if_eqN (tgt := 37) dX2_isConsistent_14 (by decide) (by omega) (fun c14 => absurd c14 (by omega)) (fun c14 => ?_)
  refine r_iload2 dX2_isConsistent_17 ?_
  refine r_aload1 dX2_isConsistent_18 ?_
  refine r_callV (M' := mX12_shortestByDeciding) _ dX2_isConsistent_19 q1892 q824 q825 rfl (lw_all_tbl q826) q182 (by exact pl_X12_shortestByDeciding) gc_X12 nb3 ((k_byDeciding (k7.stab st3 (Nat.le_refl _)) (Nat.le_refl _) w nb3)) (by omega) (Nat.le_of_ble_eq_true rfl) (by omega) (by omega) rfl (Nat.le_of_ble_eq_true rfl) rfl (kI fun r19 h19 n19 e19 => ?_) kN
  obtain ⟨rfl, y6, rfl⟩ := e19
  have st4 := st3.tr (stab.eq (Nat.le_succ n11) j2 y6)
  have nb4 := (y6 n (by omega)).trans nb3
  refine g_facts fun l1 l2 l3 => ?_
  obtain ⟨b1, b2, b3, mb, G, b4, b5⟩ := k7.stab st4 (Nat.le_refl _)
  refine r_icmp_ne (tgt := 37) dX2_isConsistent_22 (by decide) (fun c22 => absurd c22 ((fun z => z rfl))) (fun c22 => ?_)
  refine r_aload1 dX2_isConsistent_25 ?_
  refine r_callV (M' := mX12_greedy) _ dX2_isConsistent_26 q1893 q837 q838 rfl (lw_all_tbl q839) q182 (by exact pl_X12_greedy) gc_X12 nb4 ((k_greedy12 b4 (fun i hi => (b5 i hi).1) w nb4)) (by omega) (Nat.le_of_ble_eq_true rfl) (by omega) (by omega) rfl (Nat.le_of_ble_eq_true rfl) rfl (kI fun r26 h26 n26 e26 => ?_) kN
  obtain ⟨rfl, y7, y8, y9⟩ := e26
  have st5 := st4.tr (stab.eq y8 l2 y7)
  refine r_iload2 dX2_isConsistent_29 ?_
  refine r_icmp_ltN (tgt := 37) dX2_isConsistent_30 (by decide) (by omega) (by omega) (fun c30 => absurd c30 (by omega)) (fun c30 => ?_)
  refine r_iconst (v := nI 1) dX2_isConsistent_33 (by decide) ?_
  refine r_goto (tgt := 38) dX2_isConsistent_34 (by decide) ?_
  refine r_istore3 dX2_isConsistent_38 ?_
  refine r_iconst (v := nI 0) dX2_isConsistent_39 (by decide) ?_
  refine r_istore4 dX2_isConsistent_40 ?_
  refine g_bud (bc' := 23 * ρ 1 + 2) (bs' := 97 * ρ 1 + 8) (by omega) (by omega) (Nat.le_refl _) (loop (ρ 1) 0 _ _ _ (by omega) st5 (by omega))
end
