/-! the texts of a bowl, of the bowls, of a dough -/
set_option maxRecDepth 100000
theorem crm_le {u : Nat} {ρ : Nat → Nat} (w : wB u ρ) {i : Nat} (ij : i < ρ 0) : crm ρ i ≤ 99990001 := by
  have wb := w.b
  have wi := w.d ij
  have q1 := rnd_b (rule := ρ 4) (ab := ρ (10 + 2 * i) * 10 ^ ρ 3) (be := ρ (11 + 2 * i))
  have q2 : ρ (10 + 2 * i) * 10 ^ ρ 3 / ρ (11 + 2 * i) ≤ ρ (10 + 2 * i) * 10 ^ ρ 3 := Nat.div_le_self _ _
  have q3 : ρ (10 + 2 * i) * 10 ^ ρ 3 ≤ 9999 * 10000 := Nat.mul_le_mul wi.1 (p10_b wb.2.2.2.2.1)
  unfold crm
  omega
theorem txB_0 {ρ : Nat → Nat} {j : Nat} (h : (txB ρ j).length = 0) : j = 0 := by
  cases j with
  | zero => rfl
  | succ j =>
    exfalso
    have : (txB ρ j ++ ((if 0 < j then [32] else []) ++ (dgN (ρ (23 + 2 * j)) ++ 47 :: dgN (ρ (22 + 2 * j))))).length = 0 := h
    simp only [List.length_append, List.length_cons] at this
    omega
section
variable {K : g_K} {W : c_W} {A : Nat → Nat} {lo b n u : Nat} {ρ : Nat → Nat} {α : Nat → Int64} {h : g_P}
theorem k_bowlStr {a x y : Nat} (w0 : cOK K W) (ho : h a = some (g_ob 5 [.int (nI x), .int (nI y)])) (hx : x ≤ 9999) (hy : y ≤ 9999) : g_Met K mX7_toString 6 7 630 [.ref a] h n (gA fun r h' n' => strN (dgN y ++ 47 :: dgN x) h n 7 r h' n') gN := by
  refine g_Met.facts fun f1 f2 f3 => ?_
  have an := f2 _ _ ho
  have b1 : (dgN x).length ≤ 4 := dgN_b (m := 3) (by omega) (by decide)
  have b2 : (dgN y).length ≤ 4 := dgN_b (m := 3) (by omega) (by decide)
  refine g_Met.of (M := mX7_toString) (L := [some (.ref a)]) (by decide +kernel) (Nat.le_of_ble_eq_true rfl) rfl ?_
  refine n_X7_16 dX7_toString_0 (by omega) (by omega) ?_
  refine r_dup dX7_toString_3 ?_
  refine r_callI (M' := mJ8_init) _ dX7_toString_4 q2120 q342 rfl rfl rfl (lw_all_tbl q343) q135 (by exact pl_J8_init)  ((k_lInit (h := h) w0 f1)) (by omega) (Nat.le_of_ble_eq_true rfl) (by omega) (by omega) rfl (Nat.le_of_ble_eq_true rfl) rfl (kV fun h4 n4 e4 => ?_) kN
  obtain ⟨l, rfl⟩ := e4
  refine r_aload0 dX7_toString_7 ?_
  refine f_X7_13_X7 dX7_toString_8 ((l.fr a an).trans ho) ?_
  obtain ⟨vs, hc⟩ := l.cell
  refine r_callV (M' := mJ8_append_2) _ dX7_toString_11 q2121 q674 q675 rfl (lw_all_tbl q676) q135 (by exact pl_J8_append_2) gc_J8 hc ((k_lI w0 l (by omega) (by simp; omega))) (by omega) (Nat.le_of_ble_eq_true rfl) (by omega) (by omega) rfl (Nat.le_of_ble_eq_true rfl) rfl (kA fun r11 h11 n11 t11 e11 => ?_) kN
  obtain ⟨rfl, l2, g1⟩ := e11
  refine g_facts fun _ _ i3 => ?_
  obtain ⟨b, w1, w2, w3⟩ := w0.kS i3 (z := ("DoughLedger$Bowl", 23, "/")) (by decide) (by decide)
  obtain ⟨vs2, hc2⟩ := l2.cell
  refine r_ldcS dX7_toString_14 ((w0.2.2.2.2.2.1 ("DoughLedger$Bowl", 23, "/") (by decide)).1) ?_
  refine r_callV (M' := mJ8_append) _ dX7_toString_16 q2123 q554 q555 rfl (lw_all_tbl q556) q135 (by exact pl_J8_append) gc_J8 hc2 ((k_lS w0 l2 w3 (by rw [show (kS "/").length = 1 from rfl]; simp; omega))) (by omega) (Nat.le_of_ble_eq_true rfl) (by omega) (by omega) rfl (Nat.le_of_ble_eq_true rfl) rfl (kA fun r16 h16 n16 t16 e16 => ?_) kN
  obtain ⟨rfl, l3, g2⟩ := e16
  obtain ⟨vs3, hc3⟩ := l3.cell
  refine r_aload0 dX7_toString_19 ?_
  refine f_X7_7_X7 dX7_toString_20 ((l3.fr a an).trans ho) ?_
  refine r_callV (M' := mJ8_append_2) _ dX7_toString_23 q2121 q674 q675 rfl (lw_all_tbl q676) q135 (by exact pl_J8_append_2) gc_J8 hc3 ((k_lI w0 l3 (by omega) (by rw [show kS "/" = [47] from rfl]; simp; omega))) (by omega) (Nat.le_of_ble_eq_true rfl) (by omega) (by omega) rfl (Nat.le_of_ble_eq_true rfl) rfl (kA fun r23 h23 n23 t23 e23 => ?_) kN
  obtain ⟨rfl, l4, g3⟩ := e23
  obtain ⟨vs4, hc4⟩ := l4.cell
  refine r_callV (M' := mJ8_toString) _ dX7_toString_26 q2124 q700 q701 rfl (lw_all_tbl q702) q135 (by exact pl_J8_toString) gc_J8 hc4 ((k_lStr w0 l4)) (by omega) (Nat.le_of_ble_eq_true rfl) (by omega) (by omega) rfl (Nat.le_of_ble_eq_true rfl) rfl (kA fun r26 h26 n26 t26 e26 => ?_) kN
  obtain ⟨rfl, p1, p2, rfl⟩ := e26
  have p3 := l4.le
  exact r_areturn dX7_toString_29 rfl (Or.inl ⟨_, rfl⟩) (Or.inr ⟨_, rfl⟩) (⟨_, _, rfl, by rw [show dgN y ++ 47 :: dgN x = [] ++ dgN y ++ kS "/" ++ dgN x by rw [show kS "/" = [47] from rfl]; simp]; exact p1, p3.1, Nat.le_succ_of_le p3.1, Nat.lt_succ_of_lt (Nat.lt_succ_self _), Nat.lt_succ_self _, fun q hq => (p2 q (Nat.lt_of_lt_of_le hq p3.1)).trans (l4.fr q hq), Nat.le_trans p3.1 (Nat.le_add_right _ 2), show n23 + 2 ≤ n + 7 by omega⟩)
/-- the crumbs as a decimal number -/
def txC (c s : Nat) : List Nat := dgN (c / 10 ^ s) ++ (if s = 0 then [] else 46 :: dgt c s)
theorem k_decimals (w0 : cOK K W) (wl : lOK K A) (k : bk K W lo n b ρ α h) (w : wB u ρ) {i : Nat} (ij : i < ρ 0) : g_Met K mX2_decimals 7 11 1300 [.ref b, .int (nI i)] h n (gA fun r h' n' => strN (txC (crm ρ i) (ρ 3)) h n 11 r h' n') gN := by
  refine g_Met.facts fun f1 f2 f3 => ?_
  have wb := w.b
  have cl := crm_le w ij
  have k0 := k
  obtain ⟨k1, k2, k3, t, lb, eb, ll, el, k4, k5, k6, k7, k8⟩ := k
  have bn := k3.2
  have p4 := p10_b wb.2.2.2.2.1
  have p1 := @p10_p (ρ 3)
  have dv : crm ρ i / 10 ^ ρ 3 ≤ crm ρ i := Nat.div_le_self _ _
  have b9 : (dgN (crm ρ i / 10 ^ ρ 3)).length ≤ 8 := dgN_b (m := 7) (by omega) (by decide)
  have loop : ∀ (g : Nat) (z4 : Int32) (T : List Nat) (h1 : g_P) (n1 : Nat), z4 = nI g - nI 1 → g ≤ ρ 3 → T.length + g ≤ 40 → sbL K n n T h h1 n1 → n1 + g ≤ n + 9 → g_G K mX2_decimals 7 (g + 2) (150 * g + 154) (gA fun r h' n' => strN (T ++ dgt (crm ρ i) g) h n 11 r h' n') gN 68 [some (.ref b), some (.int (nI i)), some (.int (nI (crm ρ i))), some (.ref n), some (.int z4)] [] h1 n1 := by
    intro g
    induction g with
    | zero =>
      intro z4 T h1 n1 hz hg hT l hn
      have zv : z4 = -1 := by rw [hz]; decide
      subst zv
      obtain ⟨vs, hc⟩ := l.cell
      have p3 := l.le
      refine r_iload4 dX2_decimals_68 ?_
      refine r_if_lt (tgt := 94) dX2_decimals_70 (by decide) (fun c70 => ?_) (fun c70 => absurd ((by decide)) c70)
      refine r_aload3 dX2_decimals_94 ?_
      refine r_callV (M' := mJ8_toString) _ dX2_decimals_95 q2125 q700 q701 rfl (lw_all_tbl q702) q135 (by exact pl_J8_toString) gc_J8 hc ((k_lStr w0 l)) (by omega) (Nat.le_of_ble_eq_true rfl) (by omega) (by omega) rfl (Nat.le_of_ble_eq_true rfl) rfl (kA fun r95 h95 n95 t95 e95 => ?_) kN
      obtain ⟨rfl, p1, p2, rfl⟩ := e95
      exact r_areturn dX2_decimals_98 rfl (Or.inl ⟨_, rfl⟩) (Or.inr ⟨_, rfl⟩) (⟨_, _, rfl, by rw [show T ++ dgt (crm ρ i) 0 = T from List.append_nil _]; exact p1, p3.1, Nat.le_succ_of_le p3.1, Nat.lt_succ_of_lt (Nat.lt_succ_self _), Nat.lt_succ_self _, fun q hq => (p2 q (Nat.lt_of_lt_of_le hq p3.1)).trans (l.fr q hq), Nat.le_trans p3.1 (Nat.le_add_right _ 2), show n1 + 2 ≤ n + 11 by omega⟩)
    | succ g ih =>
      intro z4 T h1 n1 hz hg hT l hn
      have zv : z4 = nI g := by rw [hz, pk_sub (by omega), Nat.add_sub_cancel]
      subst zv
      obtain ⟨vs, hc⟩ := l.cell
      have pg := p10_b (s := g) (by omega)
      have pg1 := @p10_p g
      have dg : crm ρ i / 10 ^ g ≤ crm ρ i := Nat.div_le_self _ _
      have e1 : dgN (crm ρ i / 10 ^ g % 10) = [48 + crm ρ i / 10 ^ g % 10] := dgN_1 (Nat.mod_lt _ (by decide))
      refine r_iload4 dX2_decimals_68 ?_
      refine r_if_ltN (tgt := 94) dX2_decimals_70 (by decide) (by omega) (fun c70 => absurd c70 (by omega)) (fun c70 => ?_)
      refine r_aload3 dX2_decimals_73 ?_
      refine r_iload2 dX2_decimals_74 ?_
      refine r_iload4 dX2_decimals_75 ?_
      refine r_callSN (M' := mX1_power) _ dX2_decimals_77 q2900 q1836 rfl (lw_all_tbl q1837) q125 (by exact pl_X1_power)  ((k_power1 (by omega))) (by omega) (Nat.le_of_ble_eq_true rfl) (by omega) (by omega) rfl (Nat.le_of_ble_eq_true rfl) rfl (kI fun r77 h77 n77 e77 => ?_) kN
      obtain ⟨q9, q8, q7⟩ := e77; have q9 := q9.symm; have q8 := q8.symm; have q7 := q7.symm; subst q9; subst q8; subst q7
      refine r_idiv dX2_decimals_80 (nI_ne0 (by omega) (by omega)) (by first | exact pk_div (by omega) (by omega) (by omega) | rfl) ?_
      refine r_bipush (v := nI 10) dX2_decimals_81 (by decide) ?_
      refine r_irem dX2_decimals_83 (nI_ne0 (by omega) (by omega)) (by first | exact pk_rem (by omega) (by omega) (by omega) | rfl) ?_
      refine r_callV (M' := mJ8_append_2) _ dX2_decimals_84 q2899 q674 q675 rfl (lw_all_tbl q676) q135 (by exact pl_J8_append_2) gc_J8 hc ((k_lI w0 l (by omega) (by rw [e1]; simp; omega))) (by omega) (Nat.le_of_ble_eq_true rfl) (by omega) (by omega) rfl (Nat.le_of_ble_eq_true rfl) rfl (kA fun r84 h84 n84 t84 e84 => ?_) kN
      obtain ⟨rfl, l2, g1⟩ := e84
      rw [e1] at l2
      refine r_pop dX2_decimals_87 ?_
      refine r_iinc4 dX2_decimals_88 rfl ?_
      refine r_goto (tgt := 68) dX2_decimals_91 (by decide) ?_
      have z := ih (nI g + Int32.ofInt (-1)) (T ++ [48 + crm ρ i / 10 ^ g % 10]) h84 n84 (by rw [Int32.sub_eq_add_neg]; rfl) (by omega) (by rw [List.length_append]; simp; omega) l2 (by omega)
      rw [List.append_assoc, show [48 + crm ρ i / 10 ^ g % 10] ++ dgt (crm ρ i) g = dgt (crm ρ i) (g + 1) from rfl] at z
      exact g_bud (by omega) (by omega) (Nat.le_refl _) z
  refine g_Met.of (M := mX2_decimals) (L := [some (.ref b), some (.int (nI i)), none, none, none]) (by decide +kernel) (Nat.le_of_ble_eq_true rfl) rfl ?_
  refine r_aload0 dX2_decimals_0 ?_
  refine r_iload1 dX2_decimals_1 ?_
  refine r_callV (M' := mX2_crumbsIn) _ dX2_decimals_2 q1773 q1774 q1775 rfl (lw_all_tbl q1776) q126 (by exact pl_X2_crumbsIn) gc_X2 k4 ((k_crumbsIn2 w0 wl k0 w ij)) (by omega) (Nat.le_of_ble_eq_true rfl) (by omega) (by omega) rfl (Nat.le_of_ble_eq_true rfl) rfl (kI fun r2 h2 n2 e2 => ?_) kN
  obtain ⟨q9, q8, q7⟩ := e2; have q9 := q9.symm; have q8 := q8.symm; have q7 := q7.symm; subst q9; subst q8; subst q7
  refine r_istore2 dX2_decimals_5 ?_
  refine r_aload0 dX2_decimals_6 ?_
  refine f_X2_28_X2 dX2_decimals_7 k4 ?_
  refine r_if_neN (tgt := 33) dX2_decimals_10 (by decide) (by omega) (fun c10 => ?_) (fun c10 => ?_)
  · refine n_X2_227 dX2_decimals_33 (by omega) (by omega) ?_
    have l0 : ρ 3 ≠ 0 := c10
    refine r_dup dX2_decimals_36 ?_
    refine r_callI (M' := mJ8_init) _ dX2_decimals_37 q2110 q342 rfl rfl rfl (lw_all_tbl q343) q135 (by exact pl_J8_init)  ((k_lInit (h := h) w0 f1)) (by omega) (Nat.le_of_ble_eq_true rfl) (by omega) (by omega) rfl (Nat.le_of_ble_eq_true rfl) rfl (kV fun h37 n37 e37 => ?_) kN
    obtain ⟨l, rfl⟩ := e37
    refine r_astore3 dX2_decimals_40 ?_
    refine r_aload3 dX2_decimals_41 ?_
    refine r_iload2 dX2_decimals_42 ?_
    refine r_aload0 dX2_decimals_43 ?_
    refine f_X2_28_X2 dX2_decimals_44 ((l.fr b bn).trans k4) ?_
    refine r_callSN (M' := mX1_power) _ dX2_decimals_47 q2900 q1836 rfl (lw_all_tbl q1837) q125 (by exact pl_X1_power)  ((k_power1 (by omega))) (by omega) (Nat.le_of_ble_eq_true rfl) (by omega) (by omega) rfl (Nat.le_of_ble_eq_true rfl) rfl (kI fun r47 h47 n47 e47 => ?_) kN
    obtain ⟨q9, q8, q7⟩ := e47; have q9 := q9.symm; have q8 := q8.symm; have q7 := q7.symm; subst q9; subst q8; subst q7
    refine r_idiv dX2_decimals_50 (nI_ne0 (by omega) (by omega)) (by first | exact pk_div (by omega) (by omega) (by omega) | rfl) ?_
    obtain ⟨vs, hc⟩ := l.cell
    refine r_callV (M' := mJ8_append_2) _ dX2_decimals_51 q2899 q674 q675 rfl (lw_all_tbl q676) q135 (by exact pl_J8_append_2) gc_J8 hc ((k_lI w0 l (by omega) (by simp; omega))) (by omega) (Nat.le_of_ble_eq_true rfl) (by omega) (by omega) rfl (Nat.le_of_ble_eq_true rfl) rfl (kA fun r51 h51 n51 t51 e51 => ?_) kN
    obtain ⟨rfl, l2, g1⟩ := e51
    obtain ⟨vs2, hc2⟩ := l2.cell
    refine r_bipush (v := nI 46) dX2_decimals_54 (by decide) ?_
    refine r_callV (M' := mJ8_append_4) _ dX2_decimals_56 q2901 q2902 q2903 rfl (lw_all_tbl q2904) q135 (by exact pl_J8_append_4) gc_J8 hc2 ((k_lC w0 l2 (by decide) (by simp; omega))) (by omega) (Nat.le_of_ble_eq_true rfl) (by omega) (by omega) rfl (Nat.le_of_ble_eq_true rfl) rfl (kA fun r56 h56 n56 t56 e56 => ?_) kN
    obtain ⟨rfl, l3, g2⟩ := e56
    refine r_pop dX2_decimals_59 ?_
    refine r_aload0 dX2_decimals_60 ?_
    refine f_X2_28_X2 dX2_decimals_61 ((l3.fr b bn).trans k4) ?_
    refine r_iconst (v := nI 1) dX2_decimals_64 (by decide) ?_
    refine r_isub dX2_decimals_65 rfl ?_
    refine r_istore4 dX2_decimals_66 ?_
    have z := loop (ρ 3) _ _ _ _ rfl (Nat.le_refl _) (by simp; omega) l3 (by omega)
    rw [show [] ++ dgN (crm ρ i / 10 ^ ρ 3) ++ [46] ++ dgt (crm ρ i) (ρ 3) = txC (crm ρ i) (ρ 3) by unfold txC; rw [if_neg l0]; simp] at z
    exact g_bud (by omega) (by omega) (Nat.le_refl _) z
  · refine n_X2_227 dX2_decimals_13 (by omega) (by omega) ?_
    refine r_dup dX2_decimals_16 ?_
    refine r_callI (M' := mJ8_init) _ dX2_decimals_17 q2110 q342 rfl rfl rfl (lw_all_tbl q343) q135 (by exact pl_J8_init)  ((k_lInit (h := h) w0 f1)) (by omega) (Nat.le_of_ble_eq_true rfl) (by omega) (by omega) rfl (Nat.le_of_ble_eq_true rfl) rfl (kV fun h17 n17 e17 => ?_) kN
    obtain ⟨l, rfl⟩ := e17
    refine g_facts fun _ _ i3 => ?_
    obtain ⟨b', w1, w2, w3⟩ := w0.kS i3 (z := ("DoughLedger$Bakery", 230, "")) (by decide) (by decide)
    obtain ⟨vs, hc⟩ := l.cell
    refine r_ldcS dX2_decimals_20 ((w0.2.2.2.2.2.1 ("DoughLedger$Bakery", 230, "") (by decide)).1) ?_
    refine r_callV (M' := mJ8_append) _ dX2_decimals_22 q2114 q554 q555 rfl (lw_all_tbl q556) q135 (by exact pl_J8_append) gc_J8 hc ((k_lS w0 l w3 (by decide))) (by omega) (Nat.le_of_ble_eq_true rfl) (by omega) (by omega) rfl (Nat.le_of_ble_eq_true rfl) rfl (kA fun r22 h22 n22 t22 e22 => ?_) kN
    obtain ⟨rfl, l2, g1⟩ := e22
    obtain ⟨vs2, hc2⟩ := l2.cell
    have b8 : (dgN (crm ρ i)).length ≤ 8 := dgN_b (m := 7) (by omega) (by decide)
    refine r_iload2 dX2_decimals_25 ?_
    refine r_callV (M' := mJ8_append_2) _ dX2_decimals_26 q2899 q674 q675 rfl (lw_all_tbl q676) q135 (by exact pl_J8_append_2) gc_J8 hc2 ((k_lI w0 l2 (by omega) (by rw [show kS "" = [] from rfl]; simp; omega))) (by omega) (Nat.le_of_ble_eq_true rfl) (by omega) (by omega) rfl (Nat.le_of_ble_eq_true rfl) rfl (kA fun r26 h26 n26 t26 e26 => ?_) kN
    obtain ⟨rfl, l3, g2⟩ := e26
    obtain ⟨vs3, hc3⟩ := l3.cell
    refine r_callV (M' := mJ8_toString) _ dX2_decimals_29 q2125 q700 q701 rfl (lw_all_tbl q702) q135 (by exact pl_J8_toString) gc_J8 hc3 ((k_lStr w0 l3)) (by omega) (Nat.le_of_ble_eq_true rfl) (by omega) (by omega) rfl (Nat.le_of_ble_eq_true rfl) rfl (kA fun r29 h29 n29 t29 e29 => ?_) kN
    obtain ⟨rfl, p1, p2, rfl⟩ := e29
    have p3 := l3.le
    exact r_areturn dX2_decimals_32 rfl (Or.inl ⟨_, rfl⟩) (Or.inr ⟨_, rfl⟩) (⟨_, _, rfl, by rw [show txC (crm ρ i) (ρ 3) = [] ++ kS "" ++ dgN (crm ρ i) by unfold txC; rw [show kS "" = [] from rfl, c10]; simp]; exact p1, p3.1, Nat.le_succ_of_le p3.1, Nat.lt_succ_of_lt (Nat.lt_succ_self _), Nat.lt_succ_self _, fun q hq => (p2 q (Nat.lt_of_lt_of_le hq p3.1)).trans (l3.fr q hq), Nat.le_trans p3.1 (Nat.le_add_right _ 2), show n26 + 2 ≤ n + 11 by omega⟩)
theorem k_bowlsText (w0 : cOK K W) (k : bk K W lo n b ρ α h) (w : wB u ρ) : g_Met K mX2_bowlsText 7 50 5000 [.ref b] h n (gA fun r h' n' => strN (txB ρ (ρ 1)) h n 50 r h' n') gN := by
  refine g_Met.facts fun f1 f2 f3 => ?_
  have wb := w.b
  have k0 := k
  obtain ⟨k1, k2, k3, t, lb, eb, ll, el, k4, k5, k6, k7, k8⟩ := k
  obtain ⟨b1, b2, b3, mb, B, b4, b5⟩ := id k6
  have bn := k3.2
  have b12 := b1.2
  have loop : ∀ (g j : Nat) (v9 : Value) (o3 : Option Value) (h1 : g_P) (n1 it : Nat), j + g = ρ 1 → g_c1 o3 → sbL K n n (txB ρ j) h h1 n1 → n1 + 9 * g ≤ n + 48 → n ≤ it → it < n1 → it ≠ n → h1 it = some (g_ob 31 [.int (nI j), v9, .int mb, .ref lb]) → g_G K mX2_bowlsText 7 (9 * g + 2) (930 * g + 154) (gA fun r h' n' => strN (txB ρ (ρ 1)) h n 50 r h' n') gN 18 [some (.ref b), some (.ref n), some (.ref it), o3] [] h1 n1 := by
    intro g
    induction g with
    | zero =>
      intro j v9 o3 h1 n1 it hj c3 l hn a1 a2 a3 hi
      have : j = ρ 1 := by omega
      subst this
      have lT := b4.of (h' := h1) (l.fr _ b12) (l.fr _ b3)
      obtain ⟨vs, hc⟩ := l.cell
      have p3 := l.le
      refine r_aload2 dX2_bowlsText_18 ?_
      refine r_callF (M' := mJ33_hasNext) _ dX2_bowlsText_19 q1644 q1357 q1356 rfl q1376 q1378 q1379 q1377 q1375 rfl (lw_all_tbl q1380) q167 (by exact (⟨by decide, by decide, by decide +kernel⟩ : g_pl ⟨"java/util/Iterator", "hasNext", "()Z"⟩ 0)) gc_J33 hi ((k_J33_hasNext lT (by rw [blist_len]; exact Nat.le_refl _) hi)) (by omega) (Nat.le_of_ble_eq_true rfl) (by omega) (by omega) rfl (Nat.le_of_ble_eq_true rfl) rfl (kI fun r19 h19 n19 e19 => ?_) kN
      obtain ⟨q9, q8, q7⟩ := e19; have q9 := q9.symm; have q8 := q8.symm; have q7 := q7.symm; subst q9; subst q8; subst q7
      refine r_if_eqB (tgt := 66) dX2_bowlsText_24 (by decide) (fun c24 => ?_) (fun c24 => absurd c24 (by rw [blist_len]; omega))
      refine r_aload1 dX2_bowlsText_66 ?_
      refine r_callV (M' := mJ8_toString) _ dX2_bowlsText_67 q2125 q700 q701 rfl (lw_all_tbl q702) q135 (by exact pl_J8_toString) gc_J8 hc ((k_lStr w0 l)) (by omega) (Nat.le_of_ble_eq_true rfl) (by omega) (by omega) rfl (Nat.le_of_ble_eq_true rfl) rfl (kA fun r67 h67 n67 t67 e67 => ?_) kN
      obtain ⟨rfl, p1, p2, rfl⟩ := e67
      exact r_areturn dX2_bowlsText_70 rfl (Or.inl ⟨_, rfl⟩) (Or.inr ⟨_, rfl⟩) (⟨_, _, rfl, p1, p3.1, Nat.le_succ_of_le p3.1, Nat.lt_succ_of_lt (Nat.lt_succ_self _), Nat.lt_succ_self _, fun q hq => (p2 q (Nat.lt_of_lt_of_le hq p3.1)).trans (l.fr q hq), Nat.le_trans p3.1 (Nat.le_add_right _ 2), show n1 + 2 ≤ n + 50 by omega⟩)
    | succ g ih =>
      intro j v9 o3 h1 n1 it hj c3 l hn a1 a2 a3 hi
      have hjl : j < ρ 1 := by omega
      have wo := w.o hjl
      have lT := b4.of (h' := h1) (l.fr _ b12) (l.fr _ b3)
      obtain ⟨d1, d2, -⟩ := b5 j hjl
      have bj := d2.2
      have e1 : (g_up h1 it (g_ob 31 [.int (nI (j + 1)), .int (nI j), .int mb, .ref lb])) (B j) = some (bw ρ j) := by
        rw [g_un (by omega), l.fr _ bj]
        exact d1
      have l1 := l.upd (h' := g_up h1 it (g_ob 31 [.int (nI (j + 1)), .int (nI j), .int mb, .ref lb])) hi (by decide) a1 (fun q hq => g_un hq)
      obtain ⟨vs, hc⟩ := l1.cell
      have tl := txB_len w (k := j) (by omega)
      have b8 : (dgN (ρ (23 + 2 * j))).length ≤ 4 := dgN_b (m := 3) (by omega) (by decide)
      have b9 : (dgN (ρ (22 + 2 * j))).length ≤ 4 := dgN_b (m := 3) (by omega) (by decide)
      have tail : ∀ (S : List Nat) (h2 : g_P) (n2 : Nat), S = (if 0 < j then [32] else []) → n2 ≤ n1 + 1 → sbL K n n (txB ρ j ++ S) h h2 n2 → h2 it = some (g_ob 31 [.int (nI (j + 1)), .int (nI j), .int mb, .ref lb]) → g_G K mX2_bowlsText 7 (9 * g + 10) (930 * g + 934) (gA fun r h' n' => strN (txB ρ (ρ 1)) h n 50 r h' n') gN 55 [some (.ref b), some (.ref n), some (.ref it), some (.ref (B j))] [.ref n] h2 n2 := by
        intro S h2 n2 hS hn2 l2 hi2
        obtain ⟨vs2, hc2⟩ := l2.cell
        have sl : S.length ≤ 1 := by rw [hS]; split <;> simp
        refine g_facts fun i1 i2 i3 => ?_
        refine r_aload3 dX2_bowlsText_55 ?_
        refine r_callV (M' := mX7_toString) _ dX2_bowlsText_56 q2115 q2116 q2117 rfl (lw_all_tbl q2118) q172 (by exact pl_X7_toString) gc_X7 ((l2.fr _ bj).trans d1) ((k_bowlStr w0 ((l2.fr _ bj).trans d1) (by omega) (by omega))) (by omega) (Nat.le_of_ble_eq_true rfl) (by omega) (by omega) rfl (Nat.le_of_ble_eq_true rfl) rfl (kA fun r56 h56 n56 t56 e56 => ?_) kN
        obtain ⟨a, b', rfl, tS, p1, p2, p3, p4, p5, p6, p7⟩ := e56
        have l3 := l2.new p5 p6
        obtain ⟨vs3, hc3⟩ := l3.cell
        refine r_callV (M' := mJ8_append) _ dX2_bowlsText_59 q2114 q554 q555 rfl (lw_all_tbl q556) q135 (by exact pl_J8_append) gc_J8 hc3 ((k_lS w0 l3 tS (by simp only [List.length_append, List.length_cons]; omega))) (by omega) (Nat.le_of_ble_eq_true rfl) (by omega) (by omega) rfl (Nat.le_of_ble_eq_true rfl) rfl (kA fun r59 h59 n59 t59 e59 => ?_) kN
        obtain ⟨rfl, l4, g4, f4⟩ := e59
        refine r_pop dX2_bowlsText_62 ?_
        refine r_goto (tgt := 18) dX2_bowlsText_63 (by decide) ?_
        have hi3 := (f4 it 31 _ ((p5 it (i2 _ _ hi2)).trans hi2) (by decide)).trans ((p5 it (i2 _ _ hi2)).trans hi2)
        refine g_facts fun o1 o2 o3 => ?_
        have hi4 := o2 _ _ hi3
        have z := ih (j + 1) (.int (nI j)) (some (.ref (B j))) h59 n59 it (by omega) g_c1r (by rw [List.append_assoc, hS] at l4; exact l4) (by omega) a1 hi4 a3 hi3
        exact g_bud (by omega) (by omega) (Nat.le_refl _) z
      refine r_aload2 dX2_bowlsText_18 ?_
      refine r_callF (M' := mJ33_hasNext) _ dX2_bowlsText_19 q1644 q1357 q1356 rfl q1376 q1378 q1379 q1377 q1375 rfl (lw_all_tbl q1380) q167 (by exact (⟨by decide, by decide, by decide +kernel⟩ : g_pl ⟨"java/util/Iterator", "hasNext", "()Z"⟩ 0)) gc_J33 hi ((k_J33_hasNext lT (by rw [blist_len]; omega) hi)) (by omega) (Nat.le_of_ble_eq_true rfl) (by omega) (by omega) rfl (Nat.le_of_ble_eq_true rfl) rfl (kI fun r19 h19 n19 e19 => ?_) kN
      obtain ⟨q9, q8, q7⟩ := e19; have q9 := q9.symm; have q8 := q8.symm; have q7 := q7.symm; subst q9; subst q8; subst q7
      refine r_if_eqB (tgt := 66) dX2_bowlsText_24 (by decide) (fun c24 => absurd c24 (by rw [blist_len]; omega)) (fun c24 => ?_)
      refine r_aload2 dX2_bowlsText_27 ?_
      refine r_callF (M' := mJ33_next) _ dX2_bowlsText_28 q1646 q1399 q1398 rfl q1505 q1507 q1508 q1506 q1375 rfl (lw_all_tbl q1509) q167 (by exact (⟨by decide, by decide, by decide +kernel⟩ : g_pl ⟨"java/util/Iterator", "next", "()Ljava/lang/Object;"⟩ 0)) gc_J33 hi ((k_J33_next (by omega) (by omega) lT (by omega) (blist_at hjl) (Or.inr ⟨_, rfl⟩) hi)) (by omega) (Nat.le_of_ble_eq_true rfl) (by omega) (by omega) rfl (Nat.le_of_ble_eq_true rfl) rfl (kA fun r28 h28 n28 t28 e28 => ?_) kN
      obtain ⟨q9, q8, q7⟩ := e28; have q9 := q9.symm; have q8 := q8.symm; have q7 := q7.symm; subst q9; subst q8; subst q7
      refine r_checkcast dX2_bowlsText_33 gc_X7 q1647 (Or.inl rfl) e1 ?_
      refine g_facts fun _ _ i3 => ?_
      refine r_astore3 dX2_bowlsText_36 ?_
      refine r_aload1 dX2_bowlsText_37 ?_
      refine r_aload1 dX2_bowlsText_38 ?_
      refine r_callV (M' := mJ8_length) _ dX2_bowlsText_39 q2111 q721 q4019 rfl (lw_all_tbl q722) q135 (by exact pl_J8_length) gc_J8 hc ((k_lLen l1)) (by omega) (Nat.le_of_ble_eq_true rfl) (by omega) (by omega) rfl (Nat.le_of_ble_eq_true rfl) rfl (kI fun r39 h39 n39 e39 => ?_) kN
      obtain ⟨q9, q8, q7⟩ := e39; have q9 := q9.symm; have q8 := q8.symm; have q7 := q7.symm; subst q9; subst q8; subst q7
      refine r_if_leN (tgt := 50) dX2_bowlsText_42 (by decide) (by omega) (fun c42 => ?_) (fun c42 => ?_)
      · obtain ⟨b', w1, w2, w3⟩ := w0.kS i3 (z := ("DoughLedger$Bakery", 230, "")) (by decide) (by decide)
        refine r_ldcS dX2_bowlsText_50 ((w0.2.2.2.2.2.1 ("DoughLedger$Bakery", 230, "") (by decide)).1) ?_
        refine r_callV (M' := mJ8_append) _ dX2_bowlsText_52 q2114 q554 q555 rfl (lw_all_tbl q556) q135 (by exact pl_J8_append) gc_J8 hc ((k_lS w0 l1 w3 (by rw [show (kS "").length = 0 from rfl]; omega))) (by omega) (Nat.le_of_ble_eq_true rfl) (by omega) (by omega) rfl (Nat.le_of_ble_eq_true rfl) rfl (kA fun r52 h52 n52 t52 e52 => ?_) kN
        obtain ⟨rfl, l2, g2, f3⟩ := e52
        have j0 : j = 0 := txB_0 (ρ := ρ) (by omega)
        exact g_bud (by omega) (by omega) (Nat.le_refl _) (tail (kS "") h52 n52 (by rw [j0]; rfl) g2 l2 ((f3 it 31 _ g_us (by decide)).trans g_us))
      · obtain ⟨b', w1, w2, w3⟩ := w0.kS i3 (z := ("DoughLedger$Bakery", 252, " ")) (by decide) (by decide)
        refine r_ldcS dX2_bowlsText_45 ((w0.2.2.2.2.2.1 ("DoughLedger$Bakery", 252, " ") (by decide)).1) ?_
        refine r_goto (tgt := 52) dX2_bowlsText_47 (by decide) ?_
        refine r_callV (M' := mJ8_append) _ dX2_bowlsText_52 q2114 q554 q555 rfl (lw_all_tbl q556) q135 (by exact pl_J8_append) gc_J8 hc ((k_lS w0 l1 w3 (by rw [show (kS " ").length = 1 from rfl]; omega))) (by omega) (Nat.le_of_ble_eq_true rfl) (by omega) (by omega) rfl (Nat.le_of_ble_eq_true rfl) rfl (kA fun r52 h52 n52 t52 e52 => ?_) kN
        obtain ⟨rfl, l2, g2, f3⟩ := e52
        have j0 : 0 < j := Nat.pos_of_ne_zero fun z => c42 (by rw [z]; exact Nat.le_refl _)
        exact g_bud (by omega) (by omega) (Nat.le_refl _) (tail (kS " ") h52 n52 (by rw [if_pos j0]; rfl) g2 l2 ((f3 it 31 _ g_us (by decide)).trans g_us))
  refine g_Met.of (M := mX2_bowlsText) (L := [some (.ref b), none, none, none]) (by decide +kernel) (Nat.le_of_ble_eq_true rfl) rfl ?_
  refine n_X2_227 dX2_bowlsText_0 (by omega) (by omega) ?_
  refine r_dup dX2_bowlsText_3 ?_
  refine r_callI (M' := mJ8_init) _ dX2_bowlsText_4 q2110 q342 rfl rfl rfl (lw_all_tbl q343) q135 (by exact pl_J8_init)  ((k_lInit (h := h) w0 f1)) (by omega) (Nat.le_of_ble_eq_true rfl) (by omega) (by omega) rfl (Nat.le_of_ble_eq_true rfl) rfl (kV fun h4 n4 e4 => ?_) kN
  obtain ⟨l, rfl⟩ := e4
  have lT := b4.of (h' := h4) (l.fr _ b12) (l.fr _ b3)
  refine r_astore1 dX2_bowlsText_7 ?_
  refine r_aload0 dX2_bowlsText_8 ?_
  refine f_X2_21_X2 dX2_bowlsText_9 ((l.fr _ bn).trans k4) ?_
  refine r_callF (M' := mJ4_iterator) _ dX2_bowlsText_12 q1642 q1244 q1243 rfl q1245 q1247 q1248 q1246 q414 rfl (lw_all_tbl q1249) q131 (by exact (⟨by decide, by decide, by decide +kernel⟩ : g_pl ⟨"java/util/List", "iterator", "()Ljava/util/Iterator;"⟩ 0)) gc_J4 lT.1 ((k_J4_iterator lT)) (by omega) (Nat.le_of_ble_eq_true rfl) (by omega) (by omega) rfl (Nat.le_of_ble_eq_true rfl) rfl (kA fun r12 h12 n12 t12 e12 => ?_) kN
  obtain ⟨q9, q8, q7⟩ := e12; have q9 := q9.symm; have q8 := q8.symm; have q7 := q7.symm; subst q9; subst q8; subst q7
  refine r_astore2 dX2_bowlsText_17 ?_
  exact g_bud (bc' := 9 * ρ 1 + 2) (bs' := 930 * ρ 1 + 154) (by omega) (by omega) (Nat.le_refl _) (loop (ρ 1) 0 _ none _ _ (n + 2) (by omega) g_c1n (l.new (fun q hq => by exact g_un (by omega)) (Nat.le_succ (n + 2))) (by omega) (by omega) (Nat.lt_succ_self _) (by omega) g_us)
end
