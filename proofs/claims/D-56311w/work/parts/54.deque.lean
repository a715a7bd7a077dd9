/-! ArrayDeque, as far as it is filled and walked through -/
set_option maxRecDepth 100000
def dqT (K : g_K) (q e : Nat) (vs : List Value) (h : g_P) : Prop :=
  h q = some (g_ob 30 [.ref e, .int (nI 0), .int (nI vs.length)]) ∧ ∃ r : Nat, h e = some (g_ar 5 (vs ++ List.replicate r .null)) ∧ k_b K ≤ e ∧ e ≠ q ∧ vs.length + r = 17
theorem dqT.of {K : g_K} {q e : Nat} {vs : List Value} {h h' : g_P} (l : dqT K q e vs h) (e1 : h' q = h q) (e2 : h' e = h e) : dqT K q e vs h' := by
  obtain ⟨l1, r, l2, l3⟩ := l
  exact ⟨e1.trans l1, r, e2.trans l2, l3⟩
section
variable {K : g_K} {q e n : Nat} {vs : List Value} {h : g_P}
theorem k_J32_init {v0 : Value} (hb : k_b K ≤ q) (ho : h q = some (g_ob 30 [v0, .int (nI 0), .int (nI 0)])) : g_Met K mJ32_init 2 1 17 [.ref q] h n (gV fun h' n' => dqT K q n [] h' ∧ (∀ z : Nat, z ≠ q → z ≠ n → h' z = h z) ∧ n' = n + 1) gN := by
  refine g_Met.facts fun f1 f2 f3 => ?_
  have hq := f2 _ _ ho
  refine g_Met.of (M := mJ32_init) (L := [some (.ref q)]) (by decide +kernel) (Nat.le_of_ble_eq_true rfl) rfl ?_
  refine r_aload0 dJ32_init_0 ?_
  refine r_callI (M' := mJ2_init) _ dJ32_init_1 q1227 q251 rfl rfl rfl (lw_all_tbl q252) q129 (by exact pl_J2_init)  (k_J2_init) (by omega) (Nat.le_of_ble_eq_true rfl) (by omega) (by omega) rfl (Nat.le_of_ble_eq_true rfl) rfl (kV fun h1 n1 e1 => ?_) kN
  obtain ⟨q8, q7⟩ := e1; have q8 := q8.symm; have q7 := q7.symm; subst q8; subst q7
  refine r_aload0 dJ32_init_4 ?_
  refine r_bipush (v := nI 17) dJ32_init_5 (by decide) ?_
  refine r_anewarray (17) dJ32_init_7 ga_O q1228 q871 rfl (by omega) (by omega) (by omega) (by omega) ?_
  refine p_J32_3_J32 dJ32_init_10 (by omega) (by rw [g_un (by omega)]; exact ho) ?_
  exact r_return dJ32_init_13 rfl (⟨⟨g_us, 17, by rw [g_un (by omega), g_us]; rfl, f1, by omega, rfl⟩, fun z z1 z2 => by rw [g_un z1, g_un z2], rfl⟩)
theorem k_inc {i m : Nat} (h1 : i + 1 < m) (h2 : m < 2147483648) : g_Met K mJ32_inc 0 0 0 [.int (nI i), .int (nI m)] h n (gI fun r h' n' => r = nI (i + 1) ∧ h' = h ∧ n' = n) gN := by
  refine g_Met.of (M := mJ32_inc) (L := [some (.int (nI i)), some (.int (nI m))]) (by decide +kernel) (Nat.le_of_ble_eq_true rfl) rfl ?_
  refine r_iinc0 dJ32_inc_0 (ii1 _) ?_
  refine r_iload0 dJ32_inc_3 ?_
  refine r_iload1 dJ32_inc_4 ?_
  refine r_icmp_ltN (tgt := 10) dJ32_inc_5 (by decide) (by omega) (by omega) (fun c5 => ?_) (fun c5 => absurd c5 (by omega))
  refine r_iload0 dJ32_inc_10 ?_
  exact r_ireturn dJ32_inc_11 rfl rfl (⟨rfl, rfl, rfl⟩)
theorem k_J32_addLast (hb : k_b K ≤ q) (l : dqT K q e vs h) (hl : vs.length < 16) {x ci N : Nat} {C : String} {T0 : u_T} {fs : List Value} (hcc : g_CL[ci]? = some (C, T0, N)) (hcast : Cond.castable C "java/lang/Object" ∈ lw_tbl) (ho : h x = some (g_ob ci fs)) : g_Met K mJ32_addLast 1 0 0 [.ref q, .ref x] h n (gV fun h' n' => dqT K q e (vs ++ [.ref x]) h' ∧ (∀ z : Nat, z ≠ q → z ≠ e → h' z = h z) ∧ n' = n) gN := by
  obtain ⟨l1, r, l2, l3, l4, l5⟩ := l
  obtain ⟨r, rfl⟩ : ∃ r', r = r' + 1 := ⟨r - 1, by omega⟩
  refine g_Met.of (M := mJ32_addLast) (L := [some (.ref q), some (.ref x), none]) (by decide +kernel) (Nat.le_of_ble_eq_true rfl) rfl ?_
  refine r_aload1 dJ32_addLast_0 ?_
  refine r_ifnonnull (tgt := 12) dJ32_addLast_1 (by decide) ?_
  refine r_aload0 dJ32_addLast_12 ?_
  refine f_J32_3_J32 dJ32_addLast_13 (by first | assumption | exact g_us | (rw [g_un (by omega)]; assumption) | (rw [g_un (by omega)]; exact g_us) | (rw [g_un (by omega), g_un (by omega)]; assumption) | (rw [g_un (by omega), g_un (by omega)]; exact g_us) | (rw [g_un (by omega), g_un (by omega), g_un (by omega)]; assumption) | ((repeat (rw [g_un (by omega)])); first | exact g_us | assumption)) ?_
  refine r_astore2 dJ32_addLast_16 ?_
  refine r_aload2 dJ32_addLast_17 ?_
  refine r_aload0 dJ32_addLast_18 ?_
  refine f_J32_20_J32 dJ32_addLast_19 (by first | assumption | exact g_us | (rw [g_un (by omega)]; assumption) | (rw [g_un (by omega)]; exact g_us) | (rw [g_un (by omega), g_un (by omega)]; assumption) | (rw [g_un (by omega), g_un (by omega)]; exact g_us) | (rw [g_un (by omega), g_un (by omega), g_un (by omega)]; assumption) | ((repeat (rw [g_un (by omega)])); first | exact g_us | assumption)) ?_
  refine r_aload1 dJ32_addLast_22 ?_
  refine r_aastore vs.length dJ32_addLast_23 ga_O hcc hcast l3 l2 ho rfl (by omega) (by simp) ?_
  refine r_aload0 dJ32_addLast_24 ?_
  refine f_J32_24_J32 dJ32_addLast_25 (by rw [g_un (Ne.symm l4)]; exact l1) ?_
  refine r_aload0 dJ32_addLast_28 ?_
  refine r_aload0 dJ32_addLast_29 ?_
  refine f_J32_20_J32 dJ32_addLast_30 (by rw [g_un (Ne.symm l4)]; exact l1) ?_
  refine r_aload2 dJ32_addLast_33 ?_
  refine r_arraylength dJ32_addLast_34 ga_O g_us (show _ = nI 17 by rw [show ((vs ++ List.replicate (r + 1) Value.null).set vs.length (.ref x)).length = 17 by simp; omega]) ?_
  refine r_callS (M' := mJ32_inc) _ dJ32_addLast_35 q1552 q1503 rfl (lw_all_tbl q1504) q166 (by exact pl_J32_inc)  ((k_inc (by omega) (by omega))) (by omega) (Nat.le_of_ble_eq_true rfl) (by omega) (by omega) rfl (Nat.le_of_ble_eq_true rfl) rfl (kI fun r35 h35 n35 e35 => ?_) kN
  obtain ⟨q9, q8, q7⟩ := e35; have q9 := q9.symm; have q8 := q8.symm; have q7 := q7.symm; subst q9; subst q8; subst q7
  refine r_dup_x1 dJ32_addLast_38 ?_
  refine p_J32_20_J32 dJ32_addLast_39 (by omega) (by rw [g_un (Ne.symm l4)]; exact l1) ?_
  refine r_icmp_neN (tgt := 50) dJ32_addLast_42 (by decide) (by omega) (by omega) (fun c42 => ?_) (fun c42 => absurd c42 (by omega))
  exact r_return dJ32_addLast_50 rfl (⟨⟨by rw [g_us]; simp, r, by rw [g_un l4, g_us, rp_set], l3, l4, by simp; omega⟩, fun z z1 z2 => by rw [g_un z1, g_un z2], rfl⟩)
theorem k_sub {i m : Nat} (h1 : i < 2147483648) : g_Met K mJ32_sub 0 0 0 [.int (nI i), .int (nI 0), .int (nI m)] h n (gI fun r h' n' => r = nI i ∧ h' = h ∧ n' = n) gN := by
  refine g_Met.of (M := mJ32_sub) (L := [some (.int (nI i)), some (.int (nI 0)), some (.int (nI m))]) (by decide +kernel) (Nat.le_of_ble_eq_true rfl) rfl ?_
  refine r_iload0 dJ32_sub_0 ?_
  refine r_iload1 dJ32_sub_1 ?_
  refine r_isub dJ32_sub_2 (by first | exact pk_sub (by omega) | rfl) ?_
  refine r_dup dJ32_sub_3 ?_
  refine r_istore0 dJ32_sub_4 ?_
  refine r_if_geN (tgt := 12) dJ32_sub_5 (by decide) (by omega) (fun c5 => ?_) (fun c5 => absurd c5 (by omega))
  refine r_iload0 dJ32_sub_12 ?_
  exact r_ireturn dJ32_sub_13 rfl rfl (⟨rfl, rfl, rfl⟩)
theorem k_J32_size (l : dqT K q e vs h) : g_Met K mJ32_size 1 0 0 [.ref q] h n (gI fun r h' n' => r = nI vs.length ∧ h' = h ∧ n' = n) gN := by
  obtain ⟨l1, r, l2, l3, l4, l5⟩ := l
  refine g_Met.of (M := mJ32_size) (L := [some (.ref q)]) (by decide +kernel) (Nat.le_of_ble_eq_true rfl) rfl ?_
  refine r_aload0 dJ32_size_0 ?_
  refine f_J32_20_J32 dJ32_size_1 (by first | assumption | exact g_us | (rw [g_un (by omega)]; assumption) | (rw [g_un (by omega)]; exact g_us) | (rw [g_un (by omega), g_un (by omega)]; assumption) | (rw [g_un (by omega), g_un (by omega)]; exact g_us) | (rw [g_un (by omega), g_un (by omega), g_un (by omega)]; assumption) | ((repeat (rw [g_un (by omega)])); first | exact g_us | assumption)) ?_
  refine r_aload0 dJ32_size_4 ?_
  refine f_J32_24_J32 dJ32_size_5 (by first | assumption | exact g_us | (rw [g_un (by omega)]; assumption) | (rw [g_un (by omega)]; exact g_us) | (rw [g_un (by omega), g_un (by omega)]; assumption) | (rw [g_un (by omega), g_un (by omega)]; exact g_us) | (rw [g_un (by omega), g_un (by omega), g_un (by omega)]; assumption) | ((repeat (rw [g_un (by omega)])); first | exact g_us | assumption)) ?_
  refine r_aload0 dJ32_size_8 ?_
  refine f_J32_3_J32 dJ32_size_9 (by first | assumption | exact g_us | (rw [g_un (by omega)]; assumption) | (rw [g_un (by omega)]; exact g_us) | (rw [g_un (by omega), g_un (by omega)]; assumption) | (rw [g_un (by omega), g_un (by omega)]; exact g_us) | (rw [g_un (by omega), g_un (by omega), g_un (by omega)]; assumption) | ((repeat (rw [g_un (by omega)])); first | exact g_us | assumption)) ?_
  refine r_arraylength dJ32_size_12 ga_O l2 (by first | rfl | simp) ?_
  refine r_callS (M' := mJ32_sub) _ dJ32_size_13 q1595 q1596 rfl (lw_all_tbl q1597) q166 (by exact pl_J32_sub)  ((k_sub (by omega))) (by omega) (Nat.le_of_ble_eq_true rfl) (by omega) (by omega) rfl (Nat.le_of_ble_eq_true rfl) rfl (kI fun r13 h13 n13 e13 => ?_) kN
  obtain ⟨q9, q8, q7⟩ := e13; have q9 := q9.symm; have q8 := q8.symm; have q7 := q7.symm; subst q9; subst q8; subst q7
  exact r_ireturn dJ32_size_16 rfl rfl (⟨rfl, rfl, rfl⟩)
theorem k_J44_init {t : Nat} (hb : k_b K ≤ t) (l : dqT K q e vs h) (ht : t ≠ q) (hte : t ≠ e) {v0 v1 v2 v3 : Value} (ho : h t = some (g_ob 40 [v0, v1, v2, v3])) : g_Met K mJ44_init 2 0 0 [.ref t, .ref q] h n (gV fun h' n' => h' = g_up h t (g_ob 40 [.int (nI 0), .int (nI vs.length), .int (-1), .ref q]) ∧ n' = n) gN := by
  have l0 := l
  obtain ⟨l1, r, l2, l3, l4, l5⟩ := l
  refine g_Met.of (M := mJ44_init) (L := [some (.ref t), some (.ref q)]) (by decide +kernel) (Nat.le_of_ble_eq_true rfl) rfl ?_
  refine r_aload0 dJ44_init_0 ?_
  refine r_aload1 dJ44_init_1 ?_
  refine p_J44_1_J44 dJ44_init_2 (by omega) (by first | assumption | exact g_us | (rw [g_un (by omega)]; assumption) | (rw [g_un (by omega)]; exact g_us) | (rw [g_un (by omega), g_un (by omega)]; assumption) | (rw [g_un (by omega), g_un (by omega)]; exact g_us) | (rw [g_un (by omega), g_un (by omega), g_un (by omega)]; assumption) | ((repeat (rw [g_un (by omega)])); first | exact g_us | assumption)) ?_
  refine r_aload0 dJ44_init_5 ?_
  refine r_objInit dJ44_init_6 q1590 q200 q201 rfl (by omega) (Nat.le_of_ble_eq_true rfl) ?_
  refine r_aload0 dJ44_init_9 ?_
  refine r_aload0 dJ44_init_10 ?_
  refine f_J44_1_J44 dJ44_init_11 g_us ?_
  refine r_callV (M' := mJ32_size) _ dJ44_init_14 q1591 q1592 q1593 rfl (lw_all_tbl q1594) q166 (by exact pl_J32_size) gc_J32 (by rw [g_un (Ne.symm ht)]; exact l1) ((k_J32_size (l0.of (g_un (Ne.symm ht)) (g_un (Ne.symm hte))))) (by omega) (Nat.le_of_ble_eq_true rfl) (by omega) (by omega) rfl (Nat.le_of_ble_eq_true rfl) rfl (kI fun r14 h14 n14 e14 => ?_) kN
  obtain ⟨q9, q8, q7⟩ := e14; have q9 := q9.symm; have q8 := q8.symm; have q7 := q7.symm; subst q9; subst q8; subst q7
  refine p_J44_19_J44 dJ44_init_17 (by omega) g_us ?_
  refine r_aload0 dJ44_init_20 ?_
  refine r_iconst (v := -1) dJ44_init_21 (by decide) ?_
  refine p_J44_23_J44 dJ44_init_22 (by omega) g_us ?_
  refine r_aload0 dJ44_init_25 ?_
  refine r_aload1 dJ44_init_26 ?_
  refine f_J44_26_J32 dJ44_init_27 (by rw [g_un (Ne.symm ht), g_un (Ne.symm ht), g_un (Ne.symm ht)]; exact l1) ?_
  refine p_J44_29_J44 dJ44_init_30 (by omega) g_us ?_
  exact r_return dJ44_init_33 rfl (⟨by rw [g_up_up, g_up_up, g_up_up], rfl⟩)
theorem k_J32_iterator (l : dqT K q e vs h) : g_Met K mJ32_iterator 3 1 4 [.ref q] h n (gA fun r h' n' => r = .ref n ∧ h' = g_up h n (g_ob 40 [.int (nI 0), .int (nI vs.length), .int (-1), .ref q]) ∧ n' = n + 1) gN := by
  refine g_Met.facts fun f1 f2 f3 => ?_
  have hq := f2 _ _ l.1
  have he : e < n := by obtain ⟨-, r, l2, -⟩ := l; exact f2 _ _ l2
  refine g_Met.of (M := mJ32_iterator) (L := [some (.ref q)]) (by decide +kernel) (Nat.le_of_ble_eq_true rfl) rfl ?_
  refine n_J32_131 dJ32_iterator_0 (by omega) (by omega) ?_
  refine r_dup dJ32_iterator_3 ?_
  refine r_aload0 dJ32_iterator_4 ?_
  refine r_callI (M' := mJ44_init) _ dJ32_iterator_5 q1587 q1588 rfl rfl rfl (lw_all_tbl q1589) q187 (by exact pl_J44_init)  ((k_J44_init (t := n) f1 (l.of (g_un (by omega)) (g_un (by omega))) (by omega) (by omega) g_us)) (by omega) (Nat.le_of_ble_eq_true rfl) (by omega) (by omega) rfl (Nat.le_of_ble_eq_true rfl) rfl (kV fun h5 n5 e5 => ?_) kN
  obtain ⟨q8, q7⟩ := e5; have q8 := q8.symm; have q7 := q7.symm; subst q8; subst q7
  exact r_areturn dJ32_iterator_8 rfl (Or.inl ⟨_, rfl⟩) (Or.inr ⟨_, rfl⟩) (⟨rfl, by rw [g_up_up], rfl⟩)
theorem k_J44_hasNext {t c : Nat} {v0 v2 v3 : Value} (hc : c < 2147483648) (ho : h t = some (g_ob 40 [v0, .int (nI c), v2, v3])) : g_Met K mJ44_hasNext 0 0 0 [.ref t] h n (gI fun r h' n' => r = nB (0 < c) ∧ h' = h ∧ n' = n) gN := by
  refine g_Met.of (M := mJ44_hasNext) (L := [some (.ref t)]) (by decide +kernel) (Nat.le_of_ble_eq_true rfl) rfl ?_
  refine r_aload0 dJ44_hasNext_0 ?_
  refine f_J44_19_J44 dJ44_hasNext_1 (by first | assumption | exact g_us | (rw [g_un (by omega)]; assumption) | (rw [g_un (by omega)]; exact g_us) | (rw [g_un (by omega), g_un (by omega)]; assumption) | (rw [g_un (by omega), g_un (by omega)]; exact g_us) | (rw [g_un (by omega), g_un (by omega), g_un (by omega)]; assumption) | ((repeat (rw [g_un (by omega)])); first | exact g_us | assumption)) ?_
  refine r_if_leN (tgt := 11) dJ44_hasNext_4 (by decide) (by omega) (fun c4 => ?_) (fun c4 => ?_)
  · refine r_iconst (v := nI 0) dJ44_hasNext_11 (by decide) ?_
    exact r_ireturn dJ44_hasNext_12 rfl (by first | exact nB_nar | rfl) (⟨nB_f (by omega), rfl, rfl⟩)
  · refine r_iconst (v := nI 1) dJ44_hasNext_7 (by decide) ?_
    refine r_goto (tgt := 12) dJ44_hasNext_8 (by decide) ?_
    exact r_ireturn dJ44_hasNext_12 rfl (by first | exact nB_nar | rfl) (⟨nB_t (by omega), rfl, rfl⟩)
theorem k_nonNull {c x : Nat} {ws : List Value} (l2 : h e = some (g_ar 5 ws)) (hc : c < 2147483648) (hx : ws[c]? = some (.ref x)) : g_Met K mJ32_nonNullElementAt 0 0 0 [.ref e, .int (nI c)] h n (gA fun r h' n' => r = .ref x ∧ h' = h ∧ n' = n) gN := by
  refine g_Met.of (M := mJ32_nonNullElementAt) (L := [some (.ref e), some (.int (nI c)), none]) (by decide +kernel) (Nat.le_of_ble_eq_true rfl) rfl ?_
  refine r_aload0 dJ32_nonNullElementAt_0 ?_
  refine r_iload1 dJ32_nonNullElementAt_1 ?_
  refine r_aaload (c) dJ32_nonNullElementAt_2 ga_O rfl (by first | assumption | exact g_us | (rw [g_un (by omega)]; assumption) | (rw [g_un (by omega)]; exact g_us) | (rw [g_un (by omega), g_un (by omega)]; assumption) | (rw [g_un (by omega), g_un (by omega)]; exact g_us) | (rw [g_un (by omega), g_un (by omega), g_un (by omega)]; assumption) | ((repeat (rw [g_un (by omega)])); first | exact g_us | assumption)) rfl (by omega) (by assumption) ?_
  refine r_astore2 dJ32_nonNullElementAt_3 ?_
  refine r_aload2 dJ32_nonNullElementAt_4 ?_
  refine r_ifnonnull (tgt := 16) dJ32_nonNullElementAt_5 (by decide) ?_
  refine r_aload2 dJ32_nonNullElementAt_16 ?_
  exact r_areturn dJ32_nonNullElementAt_17 rfl (Or.inl ⟨_, rfl⟩) (Or.inr ⟨_, rfl⟩) (⟨rfl, rfl, rfl⟩)
theorem k_J44_next {t c x : Nat} {v2 : Value} (hb : k_b K ≤ t) (l : dqT K q e vs h) (ht : t ≠ q) (hte : t ≠ e) (hx : vs[c]? = some (.ref x)) (hl : vs.length < 16) (ho : h t = some (g_ob 40 [.int (nI c), .int (nI (vs.length - c)), v2, .ref q])) : g_Met K mJ44_next 1 0 0 [.ref t] h n (gA fun r h' n' => r = .ref x ∧ h' = g_up h t (g_ob 40 [.int (nI (c + 1)), .int (nI (vs.length - (c + 1))), .int (nI c), .ref q]) ∧ n' = n) gN := by
  have hi := (List.getElem?_eq_some_iff.mp hx).1
  obtain ⟨l1, r, l2, l3, l4, l5⟩ := l
  refine g_Met.of (M := mJ44_next) (L := [some (.ref t), none, none]) (by decide +kernel) (Nat.le_of_ble_eq_true rfl) rfl ?_
  refine r_aload0 dJ44_next_0 ?_
  refine f_J44_19_J44 dJ44_next_1 (by first | assumption | exact g_us | (rw [g_un (by omega)]; assumption) | (rw [g_un (by omega)]; exact g_us) | (rw [g_un (by omega), g_un (by omega)]; assumption) | (rw [g_un (by omega), g_un (by omega)]; exact g_us) | (rw [g_un (by omega), g_un (by omega), g_un (by omega)]; assumption) | ((repeat (rw [g_un (by omega)])); first | exact g_us | assumption)) ?_
  refine r_if_gtN (tgt := 15) dJ44_next_4 (by decide) (by omega) (fun c4 => ?_) (fun c4 => absurd c4 (by omega))
  refine r_aload0 dJ44_next_15 ?_
  refine f_J44_1_J44 dJ44_next_16 (by first | assumption | exact g_us | (rw [g_un (by omega)]; assumption) | (rw [g_un (by omega)]; exact g_us) | (rw [g_un (by omega), g_un (by omega)]; assumption) | (rw [g_un (by omega), g_un (by omega)]; exact g_us) | (rw [g_un (by omega), g_un (by omega), g_un (by omega)]; assumption) | ((repeat (rw [g_un (by omega)])); first | exact g_us | assumption)) ?_
  refine f_J44_35_J32 dJ44_next_19 (by first | assumption | exact g_us | (rw [g_un (by omega)]; assumption) | (rw [g_un (by omega)]; exact g_us) | (rw [g_un (by omega), g_un (by omega)]; assumption) | (rw [g_un (by omega), g_un (by omega)]; exact g_us) | (rw [g_un (by omega), g_un (by omega), g_un (by omega)]; assumption) | ((repeat (rw [g_un (by omega)])); first | exact g_us | assumption)) ?_
  refine r_astore1 dJ44_next_22 ?_
  refine r_aload1 dJ44_next_23 ?_
  refine r_aload0 dJ44_next_24 ?_
  refine f_J44_29_J44 dJ44_next_25 (by first | assumption | exact g_us | (rw [g_un (by omega)]; assumption) | (rw [g_un (by omega)]; exact g_us) | (rw [g_un (by omega), g_un (by omega)]; assumption) | (rw [g_un (by omega), g_un (by omega)]; exact g_us) | (rw [g_un (by omega), g_un (by omega), g_un (by omega)]; assumption) | ((repeat (rw [g_un (by omega)])); first | exact g_us | assumption)) ?_
  refine r_callS (M' := mJ32_nonNullElementAt) _ dJ44_next_28 q1499 q1500 rfl (lw_all_tbl q1501) q166 (by exact pl_J32_nonNullElementAt)  ((k_nonNull l2 (by omega) (rp_at hx))) (by omega) (Nat.le_of_ble_eq_true rfl) (by omega) (by omega) rfl (Nat.le_of_ble_eq_true rfl) rfl (kA fun r28 h28 n28 t28 e28 => ?_) kN
  obtain ⟨q9, q8, q7⟩ := e28; have q9 := q9.symm; have q8 := q8.symm; have q7 := q7.symm; subst q9; subst q8; subst q7
  refine r_astore2 dJ44_next_31 ?_
  refine r_aload0 dJ44_next_32 ?_
  refine r_aload0 dJ44_next_33 ?_
  refine r_aload0 dJ44_next_34 ?_
  refine f_J44_29_J44 dJ44_next_35 (by first | assumption | exact g_us | (rw [g_un (by omega)]; assumption) | (rw [g_un (by omega)]; exact g_us) | (rw [g_un (by omega), g_un (by omega)]; assumption) | (rw [g_un (by omega), g_un (by omega)]; exact g_us) | (rw [g_un (by omega), g_un (by omega), g_un (by omega)]; assumption) | ((repeat (rw [g_un (by omega)])); first | exact g_us | assumption)) ?_
  refine r_dup_x1 dJ44_next_38 ?_
  refine p_J44_23_J44 dJ44_next_39 (by omega) (by first | assumption | exact g_us | (rw [g_un (by omega)]; assumption) | (rw [g_un (by omega)]; exact g_us) | (rw [g_un (by omega), g_un (by omega)]; assumption) | (rw [g_un (by omega), g_un (by omega)]; exact g_us) | (rw [g_un (by omega), g_un (by omega), g_un (by omega)]; assumption) | ((repeat (rw [g_un (by omega)])); first | exact g_us | assumption)) ?_
  refine r_aload1 dJ44_next_42 ?_
  refine r_arraylength dJ44_next_43 ga_O (by rw [g_un (Ne.symm hte)]; exact l2) (show _ = nI 17 by rw [show (vs ++ List.replicate r Value.null).length = 17 by simp; omega]) ?_
  refine r_callS (M' := mJ32_inc) _ dJ44_next_44 q1502 q1503 rfl (lw_all_tbl q1504) q166 (by exact pl_J32_inc)  ((k_inc (by omega) (by omega))) (by omega) (Nat.le_of_ble_eq_true rfl) (by omega) (by omega) rfl (Nat.le_of_ble_eq_true rfl) rfl (kI fun r44 h44 n44 e44 => ?_) kN
  obtain ⟨q9, q8, q7⟩ := e44; have q9 := q9.symm; have q8 := q8.symm; have q7 := q7.symm; subst q9; subst q8; subst q7
  refine p_J44_29_J44 dJ44_next_47 (by omega) g_us ?_
  refine r_aload0 dJ44_next_50 ?_
  refine r_dup dJ44_next_51 ?_
  refine f_J44_19_J44 dJ44_next_52 g_us ?_
  refine r_iconst (v := nI 1) dJ44_next_55 (by decide) ?_
  refine r_isub dJ44_next_56 (show _ = nI (vs.length - (c + 1)) by rw [pk_sub (by omega)]; congr 1) ?_
  refine p_J44_19_J44 dJ44_next_57 (by omega) g_us ?_
  refine r_aload2 dJ44_next_60 ?_
  exact r_areturn dJ44_next_61 rfl (Or.inl ⟨_, rfl⟩) (Or.inr ⟨_, rfl⟩) (⟨rfl, by rw [g_up_up, g_up_up], rfl⟩)
end
