/-! a bowl's content, a loaf's crumbs, a dough written; a loaf taken away -/
set_option maxRecDepth 100000
section
variable {K : g_K} {W : c_W} {lo hi b t l e n u lb eb ll el i x v : Nat} {ρ ρ' : Nat → Nat} {α : Nat → Int64} {h h' : g_P} {c : g_C} {vs vs2 : List Value}
theorem bw_fup {j : Nat} (ne : j ≠ i) : bw (fup ρ (23 + 2 * i) v) j = bw ρ j := by
  unfold bw
  rw [fup_n (by omega), fup_n (by omega)]
theorem lf_fup {j : Nat} (ne : j ≠ i) : lf (fup ρ (34 + 3 * i) v) j = lf ρ j := by
  unfold lf
  rw [fup_n (by omega), fup_n (by omega), fup_n (by omega)]
theorem bkB_.bowl (k : bkB_ K W lo hi l e ρ h) (ij : i < ρ 1) : ∃ x, h x = some (bw ρ i) ∧ inR lo hi x ∧ (∀ n, g_Met K mJ4_get 2 0 0 [.ref l, .int (nI i)] h n (gA fun r h' n' => r = .ref x ∧ h' = h ∧ n' = n) gN) ∧ ∀ v, bkB_ K W lo hi l e (fup ρ (23 + 2 * i) v) (g_up h x (g_ob 5 [.int (nI (ρ (22 + 2 * i))), .int (nI v)])) := by
  obtain ⟨h1, h2, h3, m, B, h4, h5⟩ := k
  obtain ⟨d1, d2, d3⟩ := h5 i ij
  have h40 := h4
  obtain ⟨h41, r, h42, -⟩ := h40
  have n1 : l ≠ B i := fun z => by rw [z, d1] at h41; exact absurd (obj_inj h41) (by decide)
  have n2 : e ≠ B i := fun z => by rw [z, d1] at h42; exact obj_arr h42
  refine ⟨B i, d1, d2, fun n => k_J4_get h4 (blist_at ij) (Or.inr ⟨_, rfl⟩), fun v => ⟨h1, h2, h3, m, B, by rw [fup_n (by omega)]; exact h4.of (g_un n1) (g_un n2), fun j hj => ?_⟩⟩
  rw [fup_n (by omega)] at hj ⊢
  obtain ⟨f1, f2, f3⟩ := h5 j hj
  refine ⟨?_, f2, f3⟩
  by_cases ne : j = i
  · subst ne
    rw [g_us]
    unfold bw
    rw [fup_s, fup_n (by omega)]
  · rw [g_un (fun z => ne (d3 j hj z)), f1, bw_fup ne]
theorem bkL_.loaf (k : bkL_ K W lo hi l e ρ h) (ij : i < ρ 2) : ∃ x, h x = some (lf ρ i) ∧ inR lo hi x ∧ (∀ n, g_Met K mJ4_get 2 0 0 [.ref l, .int (nI i)] h n (gA fun r h' n' => r = .ref x ∧ h' = h ∧ n' = n) gN) ∧ ∀ v, bkL_ K W lo hi l e (fup ρ (34 + 3 * i) v) (g_up h x (g_ob 6 [.int (nI (ρ (32 + 3 * i))), .int (nI (ρ (33 + 3 * i))), .int (nI v)])) := by
  obtain ⟨h1, h2, h3, m, B, h4, h5⟩ := k
  obtain ⟨d1, d2, d3⟩ := h5 i ij
  have h40 := h4
  obtain ⟨h41, r, h42, -⟩ := h40
  have n1 : l ≠ B i := fun z => by rw [z, d1] at h41; exact absurd (obj_inj h41) (by decide)
  have n2 : e ≠ B i := fun z => by rw [z, d1] at h42; exact obj_arr h42
  refine ⟨B i, d1, d2, fun n => k_J4_get h4 (blist_at ij) (Or.inr ⟨_, rfl⟩), fun v => ⟨h1, h2, h3, m, B, by rw [fup_n (by omega)]; exact h4.of (g_un n1) (g_un n2), fun j hj => ?_⟩⟩
  rw [fup_n (by omega)] at hj ⊢
  obtain ⟨f1, f2, f3⟩ := h5 j hj
  refine ⟨?_, f2, f3⟩
  by_cases ne : j = i
  · subst ne
    rw [g_us]
    unfold lf
    rw [fup_s, fup_n (by omega), fup_n (by omega)]
  · rw [g_un (fun z => ne (d3 j hj z)), f1, lf_fup ne]
/-- what a part's list needs of a heap -/
theorem bkB_.cells (k : bkB_ K W lo hi l e ρ h) : ∃ vs1 vs2, h l = some (g_ob 18 vs1) ∧ h e = some (g_ar 5 vs2) ∧ l < hi ∧ e < hi := by
  obtain ⟨h1, h2, h3, m, B, ⟨h41, r, h42, -⟩, h5⟩ := k
  exact ⟨_, _, h41, h42, h1.2, h3⟩
theorem bkL_.cells (k : bkL_ K W lo hi l e ρ h) : ∃ vs1 vs2, h l = some (g_ob 18 vs1) ∧ h e = some (g_ar 5 vs2) ∧ l < hi ∧ e < hi := by
  obtain ⟨h1, h2, h3, m, B, ⟨h41, r, h42, -⟩, h5⟩ := k
  exact ⟨_, _, h41, h42, h1.2, h3⟩
theorem bk_putB (w : wB u ρ) (ij : i < 5) (k1 : k_b K ≤ lo) (k2 : k_b K ≤ hi) (k3 : inR lo hi b) (k4 : h b = some (bkO b t lb ll ρ α)) (k5 : bkD_ K W lo hi t ρ h) (k7 : bkL_ K W lo hi ll el ρ h) (k8 : lb ≠ ll ∧ (eb = el → eb = c_E W)) (hx : h x = some (g_ob 5 vs)) (k6 : bkB_ K W lo hi lb eb (fup ρ (23 + 2 * i) v) (g_up h x c)) : bk K W lo hi b (fup ρ (23 + 2 * i) v) α (g_up h x c) := by
  have wb := w.b
  have fo : ∀ (q k : Nat) (vs : List Value), h q = some (g_ob k vs) → k ≠ 5 → g_up h x c q = h q := fun q k vs q1 q2 => g_un (fun z => by rw [z, hx] at q1; exact q2 (obj_inj q1).symm)
  obtain ⟨v1, v2, c1, c2, -, -⟩ := k7.cells
  refine ⟨k1, k2, k3, t, lb, eb, ll, el, ?_, ?_, k6, ?_, k8⟩
  · rw [fo _ _ _ k4 (by decide), k4, bkO_ext (ρ' := fup ρ (23 + 2 * i) v) (fun q _ _ => fup_n (by omega))]
  · exact (k5.ext (fup_n (by omega)) (fun j hj => by unfold fc; rw [fup_n (by omega), fup_n (by omega)])).keepC (fun q k vs q1 _ q3 => fo q k vs q1 (by omega))
  · exact (k7.ext (fup_n (by omega)) (fun j hj => by unfold lf; rw [fup_n (by omega), fup_n (by omega), fup_n (by omega)])).keepC (fo _ _ _ c1 (by decide)) (g_un (fun z => by rw [z, hx] at c2; exact obj_arr c2)) (fun q vs q1 _ => fo q 6 vs q1 (by decide))
theorem bk_putL (w : wB u ρ) (k1 : k_b K ≤ lo) (k2 : k_b K ≤ hi) (k3 : inR lo hi b) (k4 : h b = some (bkO b t lb ll ρ α)) (k5 : bkD_ K W lo hi t ρ h) (k6 : bkB_ K W lo hi lb eb ρ h) (k8 : lb ≠ ll ∧ (eb = el → eb = c_E W)) (hx : h x = some (g_ob 6 vs)) (k7 : bkL_ K W lo hi ll el (fup ρ (34 + 3 * i) v) (g_up h x c)) : bk K W lo hi b (fup ρ (34 + 3 * i) v) α (g_up h x c) := by
  have wb := w.b
  have fo : ∀ (q k : Nat) (vs : List Value), h q = some (g_ob k vs) → k ≠ 6 → g_up h x c q = h q := fun q k vs q1 q2 => g_un (fun z => by rw [z, hx] at q1; exact q2 (obj_inj q1).symm)
  obtain ⟨v1, v2, c1, c2, -, -⟩ := k6.cells
  refine ⟨k1, k2, k3, t, lb, eb, ll, el, ?_, ?_, ?_, k7, k8⟩
  · rw [fo _ _ _ k4 (by decide), k4, bkO_ext (ρ' := fup ρ (34 + 3 * i) v) (fun q _ _ => fup_n (by omega))]
  · exact (k5.ext (fup_n (by omega)) (fun j hj => by unfold fc; rw [fup_n (by omega), fup_n (by omega)])).keepC (fun q k vs q1 _ q3 => fo q k vs q1 (by omega))
  · exact (k6.ext (fup_n (by omega)) (fun j hj => by unfold bw; rw [fup_n (by omega), fup_n (by omega)])).keepC (fo _ _ _ c1 (by decide)) (g_un (fun z => by rw [z, hx] at c2; exact obj_arr c2)) (fun q vs q1 _ => fo q 5 vs q1 (by decide))
theorem bkO_8 {y : Int64} : bkO b t lb ll ρ (fup α 8 y) = g_ob 1 [.ref t, .ref lb, .ref ll, .int (nI (ρ 3)), .int (nI (ρ 4)), .int (nI (ρ 5)), .long (α 6), .long (α 7), .long y, .long (α 9), .long (α 9 + lN 27720 * α 6)] := by
  unfold bkO
  rw [fup_s, fup_n (by decide), fup_n (by decide), fup_n (by decide)]
theorem bkO_inj {t' lb' ll' : Nat} (k4 : h b = some (bkO b t lb ll ρ α)) (hh : h b = some (bkO b t' lb' ll' ρ α)) : t' = t ∧ lb' = lb ∧ ll' = ll := by
  have e9 := Option.some.inj (k4.symm.trans hh)
  simp [bkO, g_ob] at e9
  exact ⟨e9.1.symm, e9.2.1.symm, e9.2.2.symm⟩
theorem blist_rm {n : Nat} {B : Nat → Nat} (ij : i < n) : (blist n B).eraseIdx i = blist (n - 1) (fun j => if j < i then B j else B (j + 1)) := by
  apply List.ext_getElem?
  intro q
  rw [List.getElem?_eraseIdx]
  by_cases q1 : q < n - 1
  · rw [blist_at q1]
    by_cases q2 : q < i
    · rw [if_pos q2, blist_at (by omega), if_pos q2]
    · rw [if_neg q2, blist_at (by omega), if_neg q2]
  · rw [List.getElem?_eq_none (l := blist (n - 1) _) (by rw [blist_len]; omega)]
    by_cases q2 : q < i
    · omega
    · rw [if_neg q2, List.getElem?_eq_none (by rw [blist_len]; omega)]
theorem slL_o {q : Nat} (h1 : q ≠ 2) (h2 : q < 32) : slL ρ i q = ρ q := by
  unfold slL
  rw [if_neg h1, if_neg (by omega), if_neg (by omega)]
theorem slL_f {j : Nat} (ij : i < ρ 2) (hj : j < ρ 2 - 1) : lf (slL ρ i) j = lf ρ (if j < i then j else j + 1) := by
  by_cases q2 : j < i
  · rw [if_pos q2]
    unfold lf slL
    rw [if_neg (by omega), if_neg (by omega), if_neg (by omega), if_neg (by omega), if_neg (by omega), if_neg (by omega), if_neg (by omega), if_neg (by omega), if_neg (by omega)]
  · rw [if_neg q2]
    unfold lf slL
    rw [if_neg (by omega), if_pos (by omega), if_neg (by omega), if_pos (by omega), if_neg (by omega), if_pos (by omega)]
    rfl
theorem bk_sellL {B : Nat → Nat} {m' : Int32} (w : wB u ρ) (ij : i < ρ 2) (k1 : k_b K ≤ lo) (k2 : k_b K ≤ hi) (k3 : inR lo hi b) (k4 : h b = some (bkO b t lb ll ρ α)) (k5 : bkD_ K W lo hi t ρ h) (k6 : bkB_ K W lo hi lb eb ρ h) (b1 : inR lo hi ll) (b2 : el = c_E W ∨ inR lo hi el) (b3 : el < hi) (b5 : ∀ i, i < ρ 2 → h (B i) = some (lf ρ i) ∧ inR lo hi (B i) ∧ ∀ j, j < ρ 2 → B j = B i → j = i) (b41 : h ll = some (g_ob 18 vs)) (b42 : h el = some (g_ar 5 vs2)) (k8 : lb ≠ ll) (k9 : eb = el → eb = c_E W) (ne : el ≠ c_E W)
    (z1 : lsT K W ll el m' ((blist (ρ 2) B).eraseIdx i) h') (f : ∀ q : Nat, q ≠ ll → q ≠ el → h' q = h q) : bk K W lo hi b (slL ρ i) α h' := by
  have wb := w.b
  have fo : ∀ (q k : Nat) (vs : List Value), h q = some (g_ob k vs) → k ≠ 18 → h' q = h q := fun q k vs q1 q2 => f q (fun z => by rw [z, b41] at q1; exact q2 (obj_inj q1).symm) (fun z => by rw [z, b42] at q1; exact obj_arr q1.symm)
  obtain ⟨v1, v2, c1, c2, -, -⟩ := k6.cells
  have e2 : slL ρ i 2 = ρ 2 - 1 := by unfold slL; rw [if_pos rfl]
  refine ⟨k1, k2, k3, t, lb, eb, ll, el, ?_, ?_, ?_, ⟨b1, b2, b3, m', _, by rw [e2, ← blist_rm ij]; exact z1, fun j hj => ?_⟩, k8, k9⟩
  · rw [fo _ _ _ k4 (by decide), k4, bkO_ext (ρ' := slL ρ i) (fun q _ _ => slL_o (by omega) (by omega))]
  · exact (k5.ext (slL_o (by omega) (by omega)) (fun j hj => by unfold fc; rw [slL_o (by omega) (by omega), slL_o (by omega) (by omega)])).keepC (fun q k vs q1 _ q3 => fo q k vs q1 (by omega))
  · exact (k6.ext (slL_o (by omega) (by omega)) (fun j hj => by unfold bw; rw [slL_o (by omega) (by omega), slL_o (by omega) (by omega)])).keepC (f _ k8 (fun z => by rw [z, b42] at c1; exact obj_arr c1.symm)) (f _ (fun z => by rw [z, b41] at c2; exact obj_arr c2) (fun z => ne (by rw [← z]; exact k9 z))) (fun q vs q1 _ => fo q 5 vs q1 (by decide))
  · rw [e2] at hj ⊢
    rw [slL_f ij hj]
    have g : ∀ j, j < ρ 2 - 1 → (if j < i then j else j + 1) < ρ 2 := fun j hj => by split <;> omega
    have gB : ∀ j, (if j < i then B j else B (j + 1)) = B (if j < i then j else j + 1) := fun j => by split <;> rfl
    rw [gB j]
    obtain ⟨d1, d2, d3⟩ := b5 _ (g j hj)
    refine ⟨(fo _ _ _ d1 (by decide)).trans d1, d2, fun j2 hj2 ej => ?_⟩
    rw [gB j2] at ej
    have := d3 _ (g j2 hj2) ej
    by_cases a1 : j2 < i
    · rw [if_pos a1] at this
      by_cases a2 : j < i
      · rw [if_pos a2] at this; exact this
      · rw [if_neg a2] at this; omega
    · rw [if_neg a1] at this
      by_cases a2 : j < i
      · rw [if_pos a2] at this; omega
      · rw [if_neg a2] at this; omega
theorem k_empty2 (w0 : cOK K W) (k : bk K W lo n b ρ α h) (w : wB u ρ) {p : Int32} : g_Met K mX2_empty 8 1 7 [.ref b, .int p] h n (muP K W lo b h n 0 (if ix p (ρ 1) then 0 else 1) (nI (ρ (23 + 2 * tN p))) (fup ρ (23 + 2 * tN p) 0) (fup α 8 (α 8 + lN (ρ (23 + 2 * tN p))))) (muX W [105] h n (if ix p (ρ 1) then 0 else 1)) := by
  have wb := w.b
  have k0 := k
  obtain ⟨k1, k2, k3, t, lb, eb, ll, el, k4, k5, k6, k7, k8⟩ := k
  obtain ⟨y1, y2, y3⟩ := k6.cell
  refine g_Met.of (M := mX2_empty) (L := [some (.ref b), some (.int p), none]) (by decide +kernel) (Nat.le_of_ble_eq_true rfl) rfl ?_
  refine r_aload0 dX2_empty_0 ?_
  refine r_iload1 dX2_empty_1 ?_
  refine r_callV (M' := mX2_hasBowl) _ dX2_empty_2 q2521 q2522 q2523 rfl (lw_all_tbl q2524) q126 (by exact pl_X2_hasBowl) gc_X2 (by first | assumption | exact g_us | (rw [g_un (by omega)]; assumption) | (rw [g_un (by omega)]; exact g_us) | (rw [g_un (by omega), g_un (by omega)]; assumption) | (rw [g_un (by omega), g_un (by omega)]; exact g_us) | (rw [g_un (by omega), g_un (by omega), g_un (by omega)]; assumption) | ((repeat (rw [g_un (by omega)])); first | exact g_us | assumption)) ((k_hasBowl k0 w)) (by omega) (Nat.le_of_ble_eq_true rfl) (by omega) (by omega) rfl (Nat.le_of_ble_eq_true rfl) rfl (kI fun r2 h2 n2 e2 => ?_) kN
  obtain ⟨q9, q8, q7⟩ := e2; have q9 := q9.symm; have q8 := q8.symm; have q7 := q7.symm; subst q9; subst q8; subst q7
  refine r_bipush (v := nI 105) dX2_empty_5 (by decide) ?_
  refine r_callSN (M' := mX1_demand) _ dX2_empty_7 q2154 q2155 rfl (lw_all_tbl q2156) q125 (by exact pl_X1_demand)  ((k_demand (p := ix p (ρ 1)) (c := 105) rfl (by decide) w0)) (by omega) (Nat.le_of_ble_eq_true rfl) (by omega) (by omega) rfl (Nat.le_of_ble_eq_true rfl) rfl (kV fun h7 n7 e7 => ?_) (fun q h' n' hx => r_out (by intro x hx; cases hx) (by obtain ⟨z1, rfl, rfl, rfl⟩ := hx; exact ⟨by rw [if_neg z1]; decide, by rw [if_neg z1]; exact cf_new⟩))
  obtain ⟨e7, q8, q7⟩ := e7; have q8 := q8.symm; have q7 := q7.symm; subst q8; subst q7
  rw [if_pos e7]
  obtain ⟨i, i1, rfl, i3⟩ := ix_ex e7
  rw [i3]
  obtain ⟨x, z1, z2, z3, z4⟩ := k6.bowl i1
  have k10 := bk_putB (v := 0) w (by omega) k1 k2 k3 k4 k5 k7 k8 z1 (z4 0)
  have xb : b ≠ x := fun z => by rw [z, z1] at k4; exact absurd (obj_inj k4) (by decide)
  have wo := w.o i1
  refine r_aload0 dX2_empty_10 ?_
  refine f_X2_21_X2 dX2_empty_11 k4 ?_
  refine r_iload1 dX2_empty_14 ?_
  refine r_callF (M' := mJ4_get) _ dX2_empty_15 q1907 q468 q467 rfl q469 q471 q472 q470 q414 rfl (lw_all_tbl q473) q131 (by exact (⟨by decide, by decide, by decide +kernel⟩ : g_pl ⟨"java/util/List", "get", "(I)Ljava/lang/Object;"⟩ 1)) gc_J4 y3 ((z3 _)) (by omega) (Nat.le_of_ble_eq_true rfl) (by omega) (by omega) rfl (Nat.le_of_ble_eq_true rfl) rfl (kA fun r15 h15 n15 t15 e15 => ?_) kN
  obtain ⟨q9, q8, q7⟩ := e15; have q9 := q9.symm; have q8 := q8.symm; have q7 := q7.symm; subst q9; subst q8; subst q7
  refine r_checkcast dX2_empty_20 gc_X7 q1647 (Or.inl rfl) z1 ?_
  refine f_X2_88_X7 dX2_empty_23 z1 ?_
  refine r_istore2 dX2_empty_26 ?_
  refine r_aload0 dX2_empty_27 ?_
  refine f_X2_21_X2 dX2_empty_28 k4 ?_
  refine r_iload1 dX2_empty_31 ?_
  refine r_callF (M' := mJ4_get) _ dX2_empty_32 q1907 q468 q467 rfl q469 q471 q472 q470 q414 rfl (lw_all_tbl q473) q131 (by exact (⟨by decide, by decide, by decide +kernel⟩ : g_pl ⟨"java/util/List", "get", "(I)Ljava/lang/Object;"⟩ 1)) gc_J4 y3 ((z3 _)) (by omega) (Nat.le_of_ble_eq_true rfl) (by omega) (by omega) rfl (Nat.le_of_ble_eq_true rfl) rfl (kA fun r32 h32 n32 t32 e32 => ?_) kN
  obtain ⟨q9, q8, q7⟩ := e32; have q9 := q9.symm; have q8 := q8.symm; have q7 := q7.symm; subst q9; subst q8; subst q7
  refine r_checkcast dX2_empty_37 gc_X7 q1647 (Or.inl rfl) z1 ?_
  refine r_iconst (v := nI 0) dX2_empty_40 (by decide) ?_
  refine p_X2_88_X7 dX2_empty_41 (by omega) z1 ?_
  refine r_aload0 dX2_empty_44 ?_
  refine r_dup dX2_empty_45 ?_
  refine f_X2_111_X2 dX2_empty_46 (by rw [g_un xb]; exact k4) ?_
  refine r_iload2 dX2_empty_49 ?_
  refine r_i2l dX2_empty_50 (i2l_nI (by omega)) ?_
  refine r_ladd dX2_empty_51 rfl ?_
  refine p_X2_111_X2 dX2_empty_52 (by omega) (by rw [g_un xb]; exact k4) ?_
  refine r_iload2 dX2_empty_55 ?_
  exact r_ireturn dX2_empty_56 rfl rfl (⟨rfl, rfl, k10.own (wB_em w i1) (fun q hq => rfl) (fun t' lb' ll' hh => by obtain ⟨rfl, rfl, rfl⟩ := bkO_inj (h := g_up h x _) (by rw [g_un xb, k4, bkO_ext (fun q _ _ => fup_n (by omega))]) hh; rw [bkO_8, fup_n (by omega), fup_n (by omega), fup_n (by omega)]), fun q hq => by rw [g_un (by have := k3.1; omega), g_un (by have := z2.1; omega)], Nat.le_refl _, Nat.le_refl _⟩)
theorem k_sellLoaf2 (w0 : cOK K W) (k : bk K W lo n b ρ α h) (w : wB u ρ) {p : Int32} : g_Met K mX2_sellLoaf 8 1 7 [.ref b, .int p] h n (muP K W lo b h n 0 (if ix p (ρ 2) then 0 else 1) (nI (ρ (34 + 3 * tN p))) (slL ρ (tN p)) (fup α 8 (α 8 + lN (ρ (34 + 3 * tN p))))) (muX W [105] h n (if ix p (ρ 2) then 0 else 1)) := by
  have wb := w.b
  have k0 := k
  obtain ⟨k1, k2, k3, t, lb, eb, ll, el, k4, k5, k6, k7, k8⟩ := k
  obtain ⟨y1, y2, y3⟩ := k7.cell
  obtain ⟨b1, b2, b3, mb, B, b4, b5⟩ := k7
  have b40 := b4
  obtain ⟨b41, br, b42, b43⟩ := b4
  refine g_Met.of (M := mX2_sellLoaf) (L := [some (.ref b), some (.int p), none]) (by decide +kernel) (Nat.le_of_ble_eq_true rfl) rfl ?_
  refine r_aload0 dX2_sellLoaf_0 ?_
  refine r_iload1 dX2_sellLoaf_1 ?_
  refine r_callV (M' := mX2_hasLoaf) _ dX2_sellLoaf_2 q2452 q2453 q2454 rfl (lw_all_tbl q2455) q126 (by exact pl_X2_hasLoaf) gc_X2 (by first | assumption | exact g_us | (rw [g_un (by omega)]; assumption) | (rw [g_un (by omega)]; exact g_us) | (rw [g_un (by omega), g_un (by omega)]; assumption) | (rw [g_un (by omega), g_un (by omega)]; exact g_us) | (rw [g_un (by omega), g_un (by omega), g_un (by omega)]; assumption) | ((repeat (rw [g_un (by omega)])); first | exact g_us | assumption)) ((k_hasLoaf k0 w)) (by omega) (Nat.le_of_ble_eq_true rfl) (by omega) (by omega) rfl (Nat.le_of_ble_eq_true rfl) rfl (kI fun r2 h2 n2 e2 => ?_) kN
  obtain ⟨q9, q8, q7⟩ := e2; have q9 := q9.symm; have q8 := q8.symm; have q7 := q7.symm; subst q9; subst q8; subst q7
  refine r_bipush (v := nI 105) dX2_sellLoaf_5 (by decide) ?_
  refine r_callSN (M' := mX1_demand) _ dX2_sellLoaf_7 q2154 q2155 rfl (lw_all_tbl q2156) q125 (by exact pl_X1_demand)  ((k_demand (p := ix p (ρ 2)) (c := 105) rfl (by decide) w0)) (by omega) (Nat.le_of_ble_eq_true rfl) (by omega) (by omega) rfl (Nat.le_of_ble_eq_true rfl) rfl (kV fun h7 n7 e7 => ?_) (fun q h' n' hx => r_out (by intro x hx; cases hx) (by obtain ⟨z1, rfl, rfl, rfl⟩ := hx; exact ⟨by rw [if_neg z1]; decide, by rw [if_neg z1]; exact cf_new⟩))
  obtain ⟨e7, q8, q7⟩ := e7; have q8 := q8.symm; have q7 := q7.symm; subst q8; subst q7
  rw [if_pos e7]
  obtain ⟨i, i1, rfl, i3⟩ := ix_ex e7
  rw [i3]
  obtain ⟨z1, z2, z3⟩ := b5 i i1
  have wo := w.l i1
  have ne : el ≠ c_E W := fun z => by
    rcases b43 with ⟨-, q, -⟩ | ⟨q, -⟩
    · rw [blist_len] at q; omega
    · have := w0.1.2.1; omega
  refine r_aload0 dX2_sellLoaf_10 ?_
  refine f_X2_25_X2 dX2_sellLoaf_11 k4 ?_
  refine r_iload1 dX2_sellLoaf_14 ?_
  refine r_callF (M' := mJ4_remove) _ dX2_sellLoaf_15 q2457 q2459 q2458 rfl q2460 q2462 q2463 q2461 q414 rfl (lw_all_tbl q2464) q131 (by exact (⟨by decide, by decide, by decide +kernel⟩ : g_pl ⟨"java/util/List", "remove", "(I)Ljava/lang/Object;"⟩ 1)) gc_J4 y3 ((k_J4_remove (by have := b1.1; omega) b40 (blist_at i1) (fun v hv => by obtain ⟨j, hj, rfl⟩ := List.mem_map.mp hv; exact ⟨_, _, rfl, (b5 j (List.mem_range.mp hj)).1⟩))) (by omega) (Nat.le_of_ble_eq_true rfl) (by omega) (by omega) rfl (Nat.le_of_ble_eq_true rfl) rfl (kA fun r15 h15 n15 t15 e15 => ?_) kN
  obtain ⟨rfl, z5, z6, rfl⟩ := e15
  have f9 : ∀ (q k : Nat) (vs : List Value), h q = some (g_ob k vs) → k ≠ 18 → h15 q = h q := fun q k vs q1 q2 => z6 q (fun z => by rw [z, b41] at q1; exact q2 (obj_inj q1).symm) (fun z => by rw [z, b42] at q1; exact obj_arr q1.symm)
  have k10 := bk_sellL w i1 k1 k2 k3 k4 k5 k6 b1 b2 b3 b5 b41 b42 k8.1 k8.2 ne z5 z6
  have k44 : h15 b = some (bkO b t lb ll ρ α) := (f9 _ _ _ k4 (by decide)).trans k4
  have z11 : h15 (B i) = some (lf ρ i) := (f9 _ _ _ z1 (by decide)).trans z1
  refine r_checkcast dX2_sellLoaf_20 gc_X8 q1648 (Or.inl rfl) z11 ?_
  refine f_X2_139_X8 dX2_sellLoaf_23 z11 ?_
  refine r_istore2 dX2_sellLoaf_26 ?_
  refine r_aload0 dX2_sellLoaf_27 ?_
  refine r_dup dX2_sellLoaf_28 ?_
  refine f_X2_111_X2 dX2_sellLoaf_29 k44 ?_
  refine r_iload2 dX2_sellLoaf_32 ?_
  refine r_i2l dX2_sellLoaf_33 (i2l_nI (by omega)) ?_
  refine r_ladd dX2_sellLoaf_34 rfl ?_
  refine p_X2_111_X2 dX2_sellLoaf_35 (by omega) k44 ?_
  refine r_iload2 dX2_sellLoaf_38 ?_
  exact r_ireturn dX2_sellLoaf_39 rfl rfl (⟨rfl, rfl, k10.own (wB_slL w i1) (fun q hq => rfl) (fun t' lb' ll' hh => by obtain ⟨rfl, rfl, rfl⟩ := bkO_inj (h := h15) (by rw [k44, bkO_ext (fun q _ _ => slL_o (by omega) (by omega))]) hh; rw [bkO_8, slL_o (by omega) (by omega), slL_o (by omega) (by omega), slL_o (by omega) (by omega)]), fun q hq => by rw [g_un (by have := k3.1; omega), z6 q (by have := b1.1; omega) (by rcases b2 with b2 | b2; exact absurd b2 ne; have := b2.1; omega)], Nat.le_refl _, Nat.le_refl _⟩)
end
