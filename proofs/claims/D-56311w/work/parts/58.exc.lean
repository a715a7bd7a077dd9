/-! exceptions are made (printed by gen_exc.py) -/
set_option maxRecDepth 100000
theorem nr_A {t : FieldType} {u : Value} (h : u = .null ∨ ∃ a, u = .ref a) : narrow (.array t) u = u := by rcases h with rfl | ⟨a, rfl⟩ <;> rfl
theorem ft_A {t : FieldType} {u : Value} (h : u = .null ∨ ∃ a, u = .ref a) : fits (.array t) u = true := by rcases h with rfl | ⟨a, rfl⟩ <;> rfl
theorem nr_O {t : String} {u : Value} (h : u = .null ∨ ∃ a, u = .ref a) : narrow (.object t) u = u := by rcases h with rfl | ⟨a, rfl⟩ <;> rfl
theorem ft_O {t : String} {u : Value} (h : u = .null ∨ ∃ a, u = .ref a) : fits (.object t) u = true := by rcases h with rfl | ⟨a, rfl⟩ <;> rfl
section
variable {K : g_K} {W : c_W} {a n : Nat} {h : g_P}
theorem k_J11_init_J28 (w : cOK K W) (hb : k_b K ≤ a) (ho : h a = some (g_ob 27 [.null, .null, .null, .null, .null, .int (nI 0)])) : g_Met K mJ11_init 3 0 0 [.ref a] h n (gV fun h' n' => h' = g_up h a (g_ob 27 [.ref a, c_U W, c_V W, .null, .null, .int (nI 0)]) ∧ n' = n) gN := by
  have hU := w.2.2.2.1.2.1
  have hV := w.2.2.2.1.2.2.2
  refine g_Met.of (M := mJ11_init) (L := [some (.ref a)]) (by decide +kernel) (Nat.le_of_ble_eq_true rfl) rfl ?_
  refine r_aload0 dJ11_init_0 ?_
  refine r_objInit dJ11_init_1 q522 q200 q201 rfl (by omega) (Nat.le_of_ble_eq_true rfl) ?_
  refine r_aload0 dJ11_init_4 ?_
  refine r_aload0 dJ11_init_5 ?_
  refine p_J11_7_J28 dJ11_init_6 (by omega) (by first | assumption | exact g_us | (rw [g_un (by omega)]; assumption) | (rw [g_un (by omega)]; exact g_us) | (rw [g_un (by omega), g_un (by omega)]; assumption) | (rw [g_un (by omega), g_un (by omega)]; exact g_us) | (rw [g_un (by omega), g_un (by omega), g_un (by omega)]; assumption) | ((repeat (rw [g_un (by omega)])); first | exact g_us | assumption)) ?_
  refine r_aload0 dJ11_init_9 ?_
  refine r_getstatic dJ11_init_10 w.2.2.2.1.1 q523 (Or.inl rfl) ?_
  refine p_J11_17_J28 dJ11_init_13 (by omega) g_us ?_ rfl (nr_A hU) (ft_A hU)
  refine r_aload0 dJ11_init_16 ?_
  refine r_getstatic dJ11_init_17 w.2.2.2.1.2.2.1 q525 (Or.inl rfl) ?_
  refine p_J11_24_J28 dJ11_init_20 (by omega) g_us ?_ rfl (nr_O hV) (ft_O hV)
  refine r_aload0 dJ11_init_23 ?_
  refine r_fill (u := c_U W) 1 4 dJ11_init_24 gk_J28 (by decide) ⟨rfl, rfl, rfl⟩ (by decide) ⟨rfl, rfl, rfl⟩ q507 q506 hb g_us rfl rfl w.2.2.2.1.1 hU (by omega) rfl (Nat.le_of_ble_eq_true rfl) ?_
  refine r_pop dJ11_init_27 ?_
  exact r_return dJ11_init_28 rfl (⟨by rw [g_up_up, g_up_up], rfl⟩)

theorem k_J12_init_2_J28 (w : cOK K W) (hb : k_b K ≤ a) (ho : h a = some (g_ob 27 [.null, .null, .null, .null, .null, .int (nI 0)])) : g_Met K mJ12_init_2 4 0 0 [.ref a] h n (gV fun h' n' => h' = g_up h a (g_ob 27 [.ref a, c_U W, c_V W, .null, .null, .int (nI 0)]) ∧ n' = n) gN := by
  refine g_Met.of (M := mJ12_init_2) (L := [some (.ref a)]) (by decide +kernel) (Nat.le_of_ble_eq_true rfl) rfl ?_
  refine r_aload0 dJ12_init_2_0 ?_
  refine r_callI (M' := mJ11_init) _ dJ12_init_2_1 q869 q520 rfl rfl rfl (lw_all_tbl q521) q139 (by exact pl_J11_init)  ((k_J11_init_J28 w hb ho)) (by omega) (Nat.le_of_ble_eq_true rfl) (by omega) (by omega) rfl (Nat.le_of_ble_eq_true rfl) rfl (kV fun h1 n1 e1 => ?_) kN
  obtain ⟨q8, q7⟩ := e1; have q8 := q8.symm; have q7 := q7.symm; subst q8; subst q7
  exact r_return dJ12_init_2_4 rfl (⟨rfl, rfl⟩)

theorem k_J27_init_2_J28 (w : cOK K W) (hb : k_b K ≤ a) (ho : h a = some (g_ob 27 [.null, .null, .null, .null, .null, .int (nI 0)])) : g_Met K mJ27_init_2 5 0 0 [.ref a] h n (gV fun h' n' => h' = g_up h a (g_ob 27 [.ref a, c_U W, c_V W, .null, .null, .int (nI 0)]) ∧ n' = n) gN := by
  refine g_Met.of (M := mJ27_init_2) (L := [some (.ref a)]) (by decide +kernel) (Nat.le_of_ble_eq_true rfl) rfl ?_
  refine r_aload0 dJ27_init_2_0 ?_
  refine r_callI (M' := mJ12_init_2) _ dJ27_init_2_1 q866 q867 rfl rfl rfl (lw_all_tbl q868) q140 (by exact pl_J12_init_2)  ((k_J12_init_2_J28 w hb ho)) (by omega) (Nat.le_of_ble_eq_true rfl) (by omega) (by omega) rfl (Nat.le_of_ble_eq_true rfl) rfl (kV fun h1 n1 e1 => ?_) kN
  obtain ⟨q8, q7⟩ := e1; have q8 := q8.symm; have q7 := q7.symm; subst q8; subst q7
  exact r_return dJ27_init_2_4 rfl (⟨rfl, rfl⟩)

theorem k_J28_init_2_J28 (w : cOK K W) (hb : k_b K ≤ a) (ho : h a = some (g_ob 27 [.null, .null, .null, .null, .null, .int (nI 0)])) : g_Met K mJ28_init_2 6 0 0 [.ref a] h n (gV fun h' n' => h' = g_up h a (g_ob 27 [.ref a, c_U W, c_V W, .null, .null, .int (nI 0)]) ∧ n' = n) gN := by
  refine g_Met.of (M := mJ28_init_2) (L := [some (.ref a)]) (by decide +kernel) (Nat.le_of_ble_eq_true rfl) rfl ?_
  refine r_aload0 dJ28_init_2_0 ?_
  refine r_callI (M' := mJ27_init_2) _ dJ28_init_2_1 q2344 q864 rfl rfl rfl (lw_all_tbl q865) q160 (by exact pl_J27_init_2)  ((k_J27_init_2_J28 w hb ho)) (by omega) (Nat.le_of_ble_eq_true rfl) (by omega) (by omega) rfl (Nat.le_of_ble_eq_true rfl) rfl (kV fun h1 n1 e1 => ?_) kN
  obtain ⟨q8, q7⟩ := e1; have q8 := q8.symm; have q7 := q7.symm; subst q8; subst q7
  exact r_return dJ28_init_2_4 rfl (⟨rfl, rfl⟩)

theorem k_J11_init_J30 (w : cOK K W) (hb : k_b K ≤ a) (ho : h a = some (g_ob 28 [.null, .null, .null, .null, .null, .int (nI 0)])) : g_Met K mJ11_init 3 0 0 [.ref a] h n (gV fun h' n' => h' = g_up h a (g_ob 28 [.ref a, c_U W, c_V W, .null, .null, .int (nI 0)]) ∧ n' = n) gN := by
  have hU := w.2.2.2.1.2.1
  have hV := w.2.2.2.1.2.2.2
  refine g_Met.of (M := mJ11_init) (L := [some (.ref a)]) (by decide +kernel) (Nat.le_of_ble_eq_true rfl) rfl ?_
  refine r_aload0 dJ11_init_0 ?_
  refine r_objInit dJ11_init_1 q522 q200 q201 rfl (by omega) (Nat.le_of_ble_eq_true rfl) ?_
  refine r_aload0 dJ11_init_4 ?_
  refine r_aload0 dJ11_init_5 ?_
  refine p_J11_7_J30 dJ11_init_6 (by omega) (by first | assumption | exact g_us | (rw [g_un (by omega)]; assumption) | (rw [g_un (by omega)]; exact g_us) | (rw [g_un (by omega), g_un (by omega)]; assumption) | (rw [g_un (by omega), g_un (by omega)]; exact g_us) | (rw [g_un (by omega), g_un (by omega), g_un (by omega)]; assumption) | ((repeat (rw [g_un (by omega)])); first | exact g_us | assumption)) ?_
  refine r_aload0 dJ11_init_9 ?_
  refine r_getstatic dJ11_init_10 w.2.2.2.1.1 q523 (Or.inl rfl) ?_
  refine p_J11_17_J30 dJ11_init_13 (by omega) g_us ?_ rfl (nr_A hU) (ft_A hU)
  refine r_aload0 dJ11_init_16 ?_
  refine r_getstatic dJ11_init_17 w.2.2.2.1.2.2.1 q525 (Or.inl rfl) ?_
  refine p_J11_24_J30 dJ11_init_20 (by omega) g_us ?_ rfl (nr_O hV) (ft_O hV)
  refine r_aload0 dJ11_init_23 ?_
  refine r_fill (u := c_U W) 1 4 dJ11_init_24 gk_J30 (by decide) ⟨rfl, rfl, rfl⟩ (by decide) ⟨rfl, rfl, rfl⟩ q535 q738 hb g_us rfl rfl w.2.2.2.1.1 hU (by omega) rfl (Nat.le_of_ble_eq_true rfl) ?_
  refine r_pop dJ11_init_27 ?_
  exact r_return dJ11_init_28 rfl (⟨by rw [g_up_up, g_up_up], rfl⟩)

theorem k_J12_init_2_J30 (w : cOK K W) (hb : k_b K ≤ a) (ho : h a = some (g_ob 28 [.null, .null, .null, .null, .null, .int (nI 0)])) : g_Met K mJ12_init_2 4 0 0 [.ref a] h n (gV fun h' n' => h' = g_up h a (g_ob 28 [.ref a, c_U W, c_V W, .null, .null, .int (nI 0)]) ∧ n' = n) gN := by
  refine g_Met.of (M := mJ12_init_2) (L := [some (.ref a)]) (by decide +kernel) (Nat.le_of_ble_eq_true rfl) rfl ?_
  refine r_aload0 dJ12_init_2_0 ?_
  refine r_callI (M' := mJ11_init) _ dJ12_init_2_1 q869 q520 rfl rfl rfl (lw_all_tbl q521) q139 (by exact pl_J11_init)  ((k_J11_init_J30 w hb ho)) (by omega) (Nat.le_of_ble_eq_true rfl) (by omega) (by omega) rfl (Nat.le_of_ble_eq_true rfl) rfl (kV fun h1 n1 e1 => ?_) kN
  obtain ⟨q8, q7⟩ := e1; have q8 := q8.symm; have q7 := q7.symm; subst q8; subst q7
  exact r_return dJ12_init_2_4 rfl (⟨rfl, rfl⟩)

theorem k_J27_init_2_J30 (w : cOK K W) (hb : k_b K ≤ a) (ho : h a = some (g_ob 28 [.null, .null, .null, .null, .null, .int (nI 0)])) : g_Met K mJ27_init_2 5 0 0 [.ref a] h n (gV fun h' n' => h' = g_up h a (g_ob 28 [.ref a, c_U W, c_V W, .null, .null, .int (nI 0)]) ∧ n' = n) gN := by
  refine g_Met.of (M := mJ27_init_2) (L := [some (.ref a)]) (by decide +kernel) (Nat.le_of_ble_eq_true rfl) rfl ?_
  refine r_aload0 dJ27_init_2_0 ?_
  refine r_callI (M' := mJ12_init_2) _ dJ27_init_2_1 q866 q867 rfl rfl rfl (lw_all_tbl q868) q140 (by exact pl_J12_init_2)  ((k_J12_init_2_J30 w hb ho)) (by omega) (Nat.le_of_ble_eq_true rfl) (by omega) (by omega) rfl (Nat.le_of_ble_eq_true rfl) rfl (kV fun h1 n1 e1 => ?_) kN
  obtain ⟨q8, q7⟩ := e1; have q8 := q8.symm; have q7 := q7.symm; subst q8; subst q7
  exact r_return dJ27_init_2_4 rfl (⟨rfl, rfl⟩)

theorem k_J30_init_2_J30 (w : cOK K W) (hb : k_b K ≤ a) (ho : h a = some (g_ob 28 [.null, .null, .null, .null, .null, .int (nI 0)])) : g_Met K mJ30_init_2 6 0 0 [.ref a] h n (gV fun h' n' => h' = g_up h a (g_ob 28 [.ref a, c_U W, c_V W, .null, .null, .int (nI 0)]) ∧ n' = n) gN := by
  refine g_Met.of (M := mJ30_init_2) (L := [some (.ref a)]) (by decide +kernel) (Nat.le_of_ble_eq_true rfl) rfl ?_
  refine r_aload0 dJ30_init_2_0 ?_
  refine r_callI (M' := mJ27_init_2) _ dJ30_init_2_1 q863 q864 rfl rfl rfl (lw_all_tbl q865) q160 (by exact pl_J27_init_2)  ((k_J27_init_2_J30 w hb ho)) (by omega) (Nat.le_of_ble_eq_true rfl) (by omega) (by omega) rfl (Nat.le_of_ble_eq_true rfl) rfl (kV fun h1 n1 e1 => ?_) kN
  obtain ⟨q8, q7⟩ := e1; have q8 := q8.symm; have q7 := q7.symm; subst q8; subst q7
  exact r_return dJ30_init_2_4 rfl (⟨rfl, rfl⟩)

theorem k_J11_init_J31 (w : cOK K W) (hb : k_b K ≤ a) (ho : h a = some (g_ob 29 [.null, .null, .null, .null, .null, .int (nI 0)])) : g_Met K mJ11_init 3 0 0 [.ref a] h n (gV fun h' n' => h' = g_up h a (g_ob 29 [.ref a, c_U W, c_V W, .null, .null, .int (nI 0)]) ∧ n' = n) gN := by
  have hU := w.2.2.2.1.2.1
  have hV := w.2.2.2.1.2.2.2
  refine g_Met.of (M := mJ11_init) (L := [some (.ref a)]) (by decide +kernel) (Nat.le_of_ble_eq_true rfl) rfl ?_
  refine r_aload0 dJ11_init_0 ?_
  refine r_objInit dJ11_init_1 q522 q200 q201 rfl (by omega) (Nat.le_of_ble_eq_true rfl) ?_
  refine r_aload0 dJ11_init_4 ?_
  refine r_aload0 dJ11_init_5 ?_
  refine p_J11_7_J31 dJ11_init_6 (by omega) (by first | assumption | exact g_us | (rw [g_un (by omega)]; assumption) | (rw [g_un (by omega)]; exact g_us) | (rw [g_un (by omega), g_un (by omega)]; assumption) | (rw [g_un (by omega), g_un (by omega)]; exact g_us) | (rw [g_un (by omega), g_un (by omega), g_un (by omega)]; assumption) | ((repeat (rw [g_un (by omega)])); first | exact g_us | assumption)) ?_
  refine r_aload0 dJ11_init_9 ?_
  refine r_getstatic dJ11_init_10 w.2.2.2.1.1 q523 (Or.inl rfl) ?_
  refine p_J11_17_J31 dJ11_init_13 (by omega) g_us ?_ rfl (nr_A hU) (ft_A hU)
  refine r_aload0 dJ11_init_16 ?_
  refine r_getstatic dJ11_init_17 w.2.2.2.1.2.2.1 q525 (Or.inl rfl) ?_
  refine p_J11_24_J31 dJ11_init_20 (by omega) g_us ?_ rfl (nr_O hV) (ft_O hV)
  refine r_aload0 dJ11_init_23 ?_
  refine r_fill (u := c_U W) 1 4 dJ11_init_24 gk_J31 (by decide) ⟨rfl, rfl, rfl⟩ (by decide) ⟨rfl, rfl, rfl⟩ q539 q1418 hb g_us rfl rfl w.2.2.2.1.1 hU (by omega) rfl (Nat.le_of_ble_eq_true rfl) ?_
  refine r_pop dJ11_init_27 ?_
  exact r_return dJ11_init_28 rfl (⟨by rw [g_up_up, g_up_up], rfl⟩)

theorem k_J12_init_2_J31 (w : cOK K W) (hb : k_b K ≤ a) (ho : h a = some (g_ob 29 [.null, .null, .null, .null, .null, .int (nI 0)])) : g_Met K mJ12_init_2 4 0 0 [.ref a] h n (gV fun h' n' => h' = g_up h a (g_ob 29 [.ref a, c_U W, c_V W, .null, .null, .int (nI 0)]) ∧ n' = n) gN := by
  refine g_Met.of (M := mJ12_init_2) (L := [some (.ref a)]) (by decide +kernel) (Nat.le_of_ble_eq_true rfl) rfl ?_
  refine r_aload0 dJ12_init_2_0 ?_
  refine r_callI (M' := mJ11_init) _ dJ12_init_2_1 q869 q520 rfl rfl rfl (lw_all_tbl q521) q139 (by exact pl_J11_init)  ((k_J11_init_J31 w hb ho)) (by omega) (Nat.le_of_ble_eq_true rfl) (by omega) (by omega) rfl (Nat.le_of_ble_eq_true rfl) rfl (kV fun h1 n1 e1 => ?_) kN
  obtain ⟨q8, q7⟩ := e1; have q8 := q8.symm; have q7 := q7.symm; subst q8; subst q7
  exact r_return dJ12_init_2_4 rfl (⟨rfl, rfl⟩)

theorem k_J27_init_2_J31 (w : cOK K W) (hb : k_b K ≤ a) (ho : h a = some (g_ob 29 [.null, .null, .null, .null, .null, .int (nI 0)])) : g_Met K mJ27_init_2 5 0 0 [.ref a] h n (gV fun h' n' => h' = g_up h a (g_ob 29 [.ref a, c_U W, c_V W, .null, .null, .int (nI 0)]) ∧ n' = n) gN := by
  refine g_Met.of (M := mJ27_init_2) (L := [some (.ref a)]) (by decide +kernel) (Nat.le_of_ble_eq_true rfl) rfl ?_
  refine r_aload0 dJ27_init_2_0 ?_
  refine r_callI (M' := mJ12_init_2) _ dJ27_init_2_1 q866 q867 rfl rfl rfl (lw_all_tbl q868) q140 (by exact pl_J12_init_2)  ((k_J12_init_2_J31 w hb ho)) (by omega) (Nat.le_of_ble_eq_true rfl) (by omega) (by omega) rfl (Nat.le_of_ble_eq_true rfl) rfl (kV fun h1 n1 e1 => ?_) kN
  obtain ⟨q8, q7⟩ := e1; have q8 := q8.symm; have q7 := q7.symm; subst q8; subst q7
  exact r_return dJ27_init_2_4 rfl (⟨rfl, rfl⟩)

theorem k_J31_init_2_J31 (w : cOK K W) (hb : k_b K ≤ a) (ho : h a = some (g_ob 29 [.null, .null, .null, .null, .null, .int (nI 0)])) : g_Met K mJ31_init_2 6 0 0 [.ref a] h n (gV fun h' n' => h' = g_up h a (g_ob 29 [.ref a, c_U W, c_V W, .null, .null, .int (nI 0)]) ∧ n' = n) gN := by
  refine g_Met.of (M := mJ31_init_2) (L := [some (.ref a)]) (by decide +kernel) (Nat.le_of_ble_eq_true rfl) rfl ?_
  refine r_aload0 dJ31_init_2_0 ?_
  refine r_callI (M' := mJ27_init_2) _ dJ31_init_2_1 q1498 q864 rfl rfl rfl (lw_all_tbl q865) q160 (by exact pl_J27_init_2)  ((k_J27_init_2_J31 w hb ho)) (by omega) (Nat.le_of_ble_eq_true rfl) (by omega) (by omega) rfl (Nat.le_of_ble_eq_true rfl) rfl (kV fun h1 n1 e1 => ?_) kN
  obtain ⟨q8, q7⟩ := e1; have q8 := q8.symm; have q7 := q7.symm; subst q8; subst q7
  exact r_return dJ31_init_2_4 rfl (⟨rfl, rfl⟩)

theorem k_J11_init_J38 (w : cOK K W) (hb : k_b K ≤ a) (ho : h a = some (g_ob 35 [.null, .null, .null, .null, .null, .int (nI 0)])) : g_Met K mJ11_init 3 0 0 [.ref a] h n (gV fun h' n' => h' = g_up h a (g_ob 35 [.ref a, c_U W, c_V W, .null, .null, .int (nI 0)]) ∧ n' = n) gN := by
  have hU := w.2.2.2.1.2.1
  have hV := w.2.2.2.1.2.2.2
  refine g_Met.of (M := mJ11_init) (L := [some (.ref a)]) (by decide +kernel) (Nat.le_of_ble_eq_true rfl) rfl ?_
  refine r_aload0 dJ11_init_0 ?_
  refine r_objInit dJ11_init_1 q522 q200 q201 rfl (by omega) (Nat.le_of_ble_eq_true rfl) ?_
  refine r_aload0 dJ11_init_4 ?_
  refine r_aload0 dJ11_init_5 ?_
  refine p_J11_7_J38 dJ11_init_6 (by omega) (by first | assumption | exact g_us | (rw [g_un (by omega)]; assumption) | (rw [g_un (by omega)]; exact g_us) | (rw [g_un (by omega), g_un (by omega)]; assumption) | (rw [g_un (by omega), g_un (by omega)]; exact g_us) | (rw [g_un (by omega), g_un (by omega), g_un (by omega)]; assumption) | ((repeat (rw [g_un (by omega)])); first | exact g_us | assumption)) ?_
  refine r_aload0 dJ11_init_9 ?_
  refine r_getstatic dJ11_init_10 w.2.2.2.1.1 q523 (Or.inl rfl) ?_
  refine p_J11_17_J38 dJ11_init_13 (by omega) g_us ?_ rfl (nr_A hU) (ft_A hU)
  refine r_aload0 dJ11_init_16 ?_
  refine r_getstatic dJ11_init_17 w.2.2.2.1.2.2.1 q525 (Or.inl rfl) ?_
  refine p_J11_24_J38 dJ11_init_20 (by omega) g_us ?_ rfl (nr_O hV) (ft_O hV)
  refine r_aload0 dJ11_init_23 ?_
  refine r_fill (u := c_U W) 1 4 dJ11_init_24 gk_J38 (by decide) ⟨rfl, rfl, rfl⟩ (by decide) ⟨rfl, rfl, rfl⟩ q536 q1565 hb g_us rfl rfl w.2.2.2.1.1 hU (by omega) rfl (Nat.le_of_ble_eq_true rfl) ?_
  refine r_pop dJ11_init_27 ?_
  exact r_return dJ11_init_28 rfl (⟨by rw [g_up_up, g_up_up], rfl⟩)

theorem k_J12_init_2_J38 (w : cOK K W) (hb : k_b K ≤ a) (ho : h a = some (g_ob 35 [.null, .null, .null, .null, .null, .int (nI 0)])) : g_Met K mJ12_init_2 4 0 0 [.ref a] h n (gV fun h' n' => h' = g_up h a (g_ob 35 [.ref a, c_U W, c_V W, .null, .null, .int (nI 0)]) ∧ n' = n) gN := by
  refine g_Met.of (M := mJ12_init_2) (L := [some (.ref a)]) (by decide +kernel) (Nat.le_of_ble_eq_true rfl) rfl ?_
  refine r_aload0 dJ12_init_2_0 ?_
  refine r_callI (M' := mJ11_init) _ dJ12_init_2_1 q869 q520 rfl rfl rfl (lw_all_tbl q521) q139 (by exact pl_J11_init)  ((k_J11_init_J38 w hb ho)) (by omega) (Nat.le_of_ble_eq_true rfl) (by omega) (by omega) rfl (Nat.le_of_ble_eq_true rfl) rfl (kV fun h1 n1 e1 => ?_) kN
  obtain ⟨q8, q7⟩ := e1; have q8 := q8.symm; have q7 := q7.symm; subst q8; subst q7
  exact r_return dJ12_init_2_4 rfl (⟨rfl, rfl⟩)

theorem k_J27_init_2_J38 (w : cOK K W) (hb : k_b K ≤ a) (ho : h a = some (g_ob 35 [.null, .null, .null, .null, .null, .int (nI 0)])) : g_Met K mJ27_init_2 5 0 0 [.ref a] h n (gV fun h' n' => h' = g_up h a (g_ob 35 [.ref a, c_U W, c_V W, .null, .null, .int (nI 0)]) ∧ n' = n) gN := by
  refine g_Met.of (M := mJ27_init_2) (L := [some (.ref a)]) (by decide +kernel) (Nat.le_of_ble_eq_true rfl) rfl ?_
  refine r_aload0 dJ27_init_2_0 ?_
  refine r_callI (M' := mJ12_init_2) _ dJ27_init_2_1 q866 q867 rfl rfl rfl (lw_all_tbl q868) q140 (by exact pl_J12_init_2)  ((k_J12_init_2_J38 w hb ho)) (by omega) (Nat.le_of_ble_eq_true rfl) (by omega) (by omega) rfl (Nat.le_of_ble_eq_true rfl) rfl (kV fun h1 n1 e1 => ?_) kN
  obtain ⟨q8, q7⟩ := e1; have q8 := q8.symm; have q7 := q7.symm; subst q8; subst q7
  exact r_return dJ27_init_2_4 rfl (⟨rfl, rfl⟩)

theorem k_J38_init_2_J38 (w : cOK K W) (hb : k_b K ≤ a) (ho : h a = some (g_ob 35 [.null, .null, .null, .null, .null, .int (nI 0)])) : g_Met K mJ38_init_2 6 0 0 [.ref a] h n (gV fun h' n' => h' = g_up h a (g_ob 35 [.ref a, c_U W, c_V W, .null, .null, .int (nI 0)]) ∧ n' = n) gN := by
  refine g_Met.of (M := mJ38_init_2) (L := [some (.ref a)]) (by decide +kernel) (Nat.le_of_ble_eq_true rfl) rfl ?_
  refine r_aload0 dJ38_init_2_0 ?_
  refine r_callI (M' := mJ27_init_2) _ dJ38_init_2_1 q2351 q864 rfl rfl rfl (lw_all_tbl q865) q160 (by exact pl_J27_init_2)  ((k_J27_init_2_J38 w hb ho)) (by omega) (Nat.le_of_ble_eq_true rfl) (by omega) (by omega) rfl (Nat.le_of_ble_eq_true rfl) rfl (kV fun h1 n1 e1 => ?_) kN
  obtain ⟨q8, q7⟩ := e1; have q8 := q8.symm; have q7 := q7.symm; subst q8; subst q7
  exact r_return dJ38_init_2_4 rfl (⟨rfl, rfl⟩)

theorem k_J11_init_J39 (w : cOK K W) (hb : k_b K ≤ a) (ho : h a = some (g_ob 36 [.null, .null, .null, .null, .null, .int (nI 0)])) : g_Met K mJ11_init 3 0 0 [.ref a] h n (gV fun h' n' => h' = g_up h a (g_ob 36 [.ref a, c_U W, c_V W, .null, .null, .int (nI 0)]) ∧ n' = n) gN := by
  have hU := w.2.2.2.1.2.1
  have hV := w.2.2.2.1.2.2.2
  refine g_Met.of (M := mJ11_init) (L := [some (.ref a)]) (by decide +kernel) (Nat.le_of_ble_eq_true rfl) rfl ?_
  refine r_aload0 dJ11_init_0 ?_
  refine r_objInit dJ11_init_1 q522 q200 q201 rfl (by omega) (Nat.le_of_ble_eq_true rfl) ?_
  refine r_aload0 dJ11_init_4 ?_
  refine r_aload0 dJ11_init_5 ?_
  refine p_J11_7_J39 dJ11_init_6 (by omega) (by first | assumption | exact g_us | (rw [g_un (by omega)]; assumption) | (rw [g_un (by omega)]; exact g_us) | (rw [g_un (by omega), g_un (by omega)]; assumption) | (rw [g_un (by omega), g_un (by omega)]; exact g_us) | (rw [g_un (by omega), g_un (by omega), g_un (by omega)]; assumption) | ((repeat (rw [g_un (by omega)])); first | exact g_us | assumption)) ?_
  refine r_aload0 dJ11_init_9 ?_
  refine r_getstatic dJ11_init_10 w.2.2.2.1.1 q523 (Or.inl rfl) ?_
  refine p_J11_17_J39 dJ11_init_13 (by omega) g_us ?_ rfl (nr_A hU) (ft_A hU)
  refine r_aload0 dJ11_init_16 ?_
  refine r_getstatic dJ11_init_17 w.2.2.2.1.2.2.1 q525 (Or.inl rfl) ?_
  refine p_J11_24_J39 dJ11_init_20 (by omega) g_us ?_ rfl (nr_O hV) (ft_O hV)
  refine r_aload0 dJ11_init_23 ?_
  refine r_fill (u := c_U W) 1 4 dJ11_init_24 gk_J39 (by decide) ⟨rfl, rfl, rfl⟩ (by decide) ⟨rfl, rfl, rfl⟩ q538 q2357 hb g_us rfl rfl w.2.2.2.1.1 hU (by omega) rfl (Nat.le_of_ble_eq_true rfl) ?_
  refine r_pop dJ11_init_27 ?_
  exact r_return dJ11_init_28 rfl (⟨by rw [g_up_up, g_up_up], rfl⟩)

theorem k_J12_init_2_J39 (w : cOK K W) (hb : k_b K ≤ a) (ho : h a = some (g_ob 36 [.null, .null, .null, .null, .null, .int (nI 0)])) : g_Met K mJ12_init_2 4 0 0 [.ref a] h n (gV fun h' n' => h' = g_up h a (g_ob 36 [.ref a, c_U W, c_V W, .null, .null, .int (nI 0)]) ∧ n' = n) gN := by
  refine g_Met.of (M := mJ12_init_2) (L := [some (.ref a)]) (by decide +kernel) (Nat.le_of_ble_eq_true rfl) rfl ?_
  refine r_aload0 dJ12_init_2_0 ?_
  refine r_callI (M' := mJ11_init) _ dJ12_init_2_1 q869 q520 rfl rfl rfl (lw_all_tbl q521) q139 (by exact pl_J11_init)  ((k_J11_init_J39 w hb ho)) (by omega) (Nat.le_of_ble_eq_true rfl) (by omega) (by omega) rfl (Nat.le_of_ble_eq_true rfl) rfl (kV fun h1 n1 e1 => ?_) kN
  obtain ⟨q8, q7⟩ := e1; have q8 := q8.symm; have q7 := q7.symm; subst q8; subst q7
  exact r_return dJ12_init_2_4 rfl (⟨rfl, rfl⟩)

theorem k_J27_init_2_J39 (w : cOK K W) (hb : k_b K ≤ a) (ho : h a = some (g_ob 36 [.null, .null, .null, .null, .null, .int (nI 0)])) : g_Met K mJ27_init_2 5 0 0 [.ref a] h n (gV fun h' n' => h' = g_up h a (g_ob 36 [.ref a, c_U W, c_V W, .null, .null, .int (nI 0)]) ∧ n' = n) gN := by
  refine g_Met.of (M := mJ27_init_2) (L := [some (.ref a)]) (by decide +kernel) (Nat.le_of_ble_eq_true rfl) rfl ?_
  refine r_aload0 dJ27_init_2_0 ?_
  refine r_callI (M' := mJ12_init_2) _ dJ27_init_2_1 q866 q867 rfl rfl rfl (lw_all_tbl q868) q140 (by exact pl_J12_init_2)  ((k_J12_init_2_J39 w hb ho)) (by omega) (Nat.le_of_ble_eq_true rfl) (by omega) (by omega) rfl (Nat.le_of_ble_eq_true rfl) rfl (kV fun h1 n1 e1 => ?_) kN
  obtain ⟨q8, q7⟩ := e1; have q8 := q8.symm; have q7 := q7.symm; subst q8; subst q7
  exact r_return dJ27_init_2_4 rfl (⟨rfl, rfl⟩)

theorem k_J39_init_J39 (w : cOK K W) (hb : k_b K ≤ a) (ho : h a = some (g_ob 36 [.null, .null, .null, .null, .null, .int (nI 0)])) : g_Met K mJ39_init 6 0 0 [.ref a] h n (gV fun h' n' => h' = g_up h a (g_ob 36 [.ref a, c_U W, c_V W, .null, .null, .int (nI 0)]) ∧ n' = n) gN := by
  refine g_Met.of (M := mJ39_init) (L := [some (.ref a)]) (by decide +kernel) (Nat.le_of_ble_eq_true rfl) rfl ?_
  refine r_aload0 dJ39_init_0 ?_
  refine r_callI (M' := mJ27_init_2) _ dJ39_init_1 q2366 q864 rfl rfl rfl (lw_all_tbl q865) q160 (by exact pl_J27_init_2)  ((k_J27_init_2_J39 w hb ho)) (by omega) (Nat.le_of_ble_eq_true rfl) (by omega) (by omega) rfl (Nat.le_of_ble_eq_true rfl) rfl (kV fun h1 n1 e1 => ?_) kN
  obtain ⟨q8, q7⟩ := e1; have q8 := q8.symm; have q7 := q7.symm; subst q8; subst q7
  exact r_return dJ39_init_4 rfl (⟨rfl, rfl⟩)

theorem k_J11_init_J45 (w : cOK K W) (hb : k_b K ≤ a) (ho : h a = some (g_ob 41 [.null, .null, .null, .null, .int (nI 0), .null])) : g_Met K mJ11_init 3 0 0 [.ref a] h n (gV fun h' n' => h' = g_up h a (g_ob 41 [.null, .null, .ref a, c_U W, .int (nI 0), c_V W]) ∧ n' = n) gN := by
  have hU := w.2.2.2.1.2.1
  have hV := w.2.2.2.1.2.2.2
  refine g_Met.of (M := mJ11_init) (L := [some (.ref a)]) (by decide +kernel) (Nat.le_of_ble_eq_true rfl) rfl ?_
  refine r_aload0 dJ11_init_0 ?_
  refine r_objInit dJ11_init_1 q522 q200 q201 rfl (by omega) (Nat.le_of_ble_eq_true rfl) ?_
  refine r_aload0 dJ11_init_4 ?_
  refine r_aload0 dJ11_init_5 ?_
  refine p_J11_7_J45 dJ11_init_6 (by omega) (by first | assumption | exact g_us | (rw [g_un (by omega)]; assumption) | (rw [g_un (by omega)]; exact g_us) | (rw [g_un (by omega), g_un (by omega)]; assumption) | (rw [g_un (by omega), g_un (by omega)]; exact g_us) | (rw [g_un (by omega), g_un (by omega), g_un (by omega)]; assumption) | ((repeat (rw [g_un (by omega)])); first | exact g_us | assumption)) ?_
  refine r_aload0 dJ11_init_9 ?_
  refine r_getstatic dJ11_init_10 w.2.2.2.1.1 q523 (Or.inl rfl) ?_
  refine p_J11_17_J45 dJ11_init_13 (by omega) g_us ?_ rfl (nr_A hU) (ft_A hU)
  refine r_aload0 dJ11_init_16 ?_
  refine r_getstatic dJ11_init_17 w.2.2.2.1.2.2.1 q525 (Or.inl rfl) ?_
  refine p_J11_24_J45 dJ11_init_20 (by omega) g_us ?_ rfl (nr_O hV) (ft_O hV)
  refine r_aload0 dJ11_init_23 ?_
  refine r_fill (u := c_U W) 3 0 dJ11_init_24 gk_J45 (by decide) ⟨rfl, rfl, rfl⟩ (by decide) ⟨rfl, rfl, rfl⟩ q533 q2793 hb g_us rfl rfl w.2.2.2.1.1 hU (by omega) rfl (Nat.le_of_ble_eq_true rfl) ?_
  refine r_pop dJ11_init_27 ?_
  exact r_return dJ11_init_28 rfl (⟨by rw [g_up_up, g_up_up], rfl⟩)

theorem k_J12_init_2_J45 (w : cOK K W) (hb : k_b K ≤ a) (ho : h a = some (g_ob 41 [.null, .null, .null, .null, .int (nI 0), .null])) : g_Met K mJ12_init_2 4 0 0 [.ref a] h n (gV fun h' n' => h' = g_up h a (g_ob 41 [.null, .null, .ref a, c_U W, .int (nI 0), c_V W]) ∧ n' = n) gN := by
  refine g_Met.of (M := mJ12_init_2) (L := [some (.ref a)]) (by decide +kernel) (Nat.le_of_ble_eq_true rfl) rfl ?_
  refine r_aload0 dJ12_init_2_0 ?_
  refine r_callI (M' := mJ11_init) _ dJ12_init_2_1 q869 q520 rfl rfl rfl (lw_all_tbl q521) q139 (by exact pl_J11_init)  ((k_J11_init_J45 w hb ho)) (by omega) (Nat.le_of_ble_eq_true rfl) (by omega) (by omega) rfl (Nat.le_of_ble_eq_true rfl) rfl (kV fun h1 n1 e1 => ?_) kN
  obtain ⟨q8, q7⟩ := e1; have q8 := q8.symm; have q7 := q7.symm; subst q8; subst q7
  exact r_return dJ12_init_2_4 rfl (⟨rfl, rfl⟩)

theorem k_J27_init_2_J45 (w : cOK K W) (hb : k_b K ≤ a) (ho : h a = some (g_ob 41 [.null, .null, .null, .null, .int (nI 0), .null])) : g_Met K mJ27_init_2 5 0 0 [.ref a] h n (gV fun h' n' => h' = g_up h a (g_ob 41 [.null, .null, .ref a, c_U W, .int (nI 0), c_V W]) ∧ n' = n) gN := by
  refine g_Met.of (M := mJ27_init_2) (L := [some (.ref a)]) (by decide +kernel) (Nat.le_of_ble_eq_true rfl) rfl ?_
  refine r_aload0 dJ27_init_2_0 ?_
  refine r_callI (M' := mJ12_init_2) _ dJ27_init_2_1 q866 q867 rfl rfl rfl (lw_all_tbl q868) q140 (by exact pl_J12_init_2)  ((k_J12_init_2_J45 w hb ho)) (by omega) (Nat.le_of_ble_eq_true rfl) (by omega) (by omega) rfl (Nat.le_of_ble_eq_true rfl) rfl (kV fun h1 n1 e1 => ?_) kN
  obtain ⟨q8, q7⟩ := e1; have q8 := q8.symm; have q7 := q7.symm; subst q8; subst q7
  exact r_return dJ27_init_2_4 rfl (⟨rfl, rfl⟩)

theorem k_J45_init_2_J45 (w : cOK K W) (hb : k_b K ≤ a) (ho : h a = some (g_ob 41 [.null, .null, .null, .null, .int (nI 0), .null])) : g_Met K mJ45_init_2 6 0 0 [.ref a] h n (gV fun h' n' => h' = g_up h a (g_ob 41 [.null, .null, .ref a, c_U W, .int (nI 0), c_V W]) ∧ n' = n) gN := by
  refine g_Met.of (M := mJ45_init_2) (L := [some (.ref a)]) (by decide +kernel) (Nat.le_of_ble_eq_true rfl) rfl ?_
  refine r_aload0 dJ45_init_2_0 ?_
  refine r_callI (M' := mJ27_init_2) _ dJ45_init_2_1 q2806 q864 rfl rfl rfl (lw_all_tbl q865) q160 (by exact pl_J27_init_2)  ((k_J27_init_2_J45 w hb ho)) (by omega) (Nat.le_of_ble_eq_true rfl) (by omega) (by omega) rfl (Nat.le_of_ble_eq_true rfl) rfl (kV fun h1 n1 e1 => ?_) kN
  obtain ⟨q8, q7⟩ := e1; have q8 := q8.symm; have q7 := q7.symm; subst q8; subst q7
  exact r_return dJ45_init_2_4 rfl (⟨rfl, rfl⟩)

theorem k_J11_init_4_X5 {v9 : Value} (w : cOK K W) (hb : k_b K ≤ a) (ho : h a = some (g_ob 3 [.null, .null, .null, .null, .null, .int (nI 0), v9])) : g_Met K mJ11_init_4 3 0 0 [.ref a, .null, .null] h n (gV fun h' n' => h' = g_up h a (g_ob 3 [.null, c_U W, c_V W, .null, .null, .int (nI 0), v9]) ∧ n' = n) gN := by
  have hU := w.2.2.2.1.2.1
  have hV := w.2.2.2.1.2.2.2
  refine g_Met.of (M := mJ11_init_4) (L := [some (.ref a), some (.null), some (.null)]) (by decide +kernel) (Nat.le_of_ble_eq_true rfl) rfl ?_
  refine r_aload0 dJ11_init_4_0 ?_
  refine r_objInit dJ11_init_4_1 q522 q200 q201 rfl (by omega) (Nat.le_of_ble_eq_true rfl) ?_
  refine r_aload0 dJ11_init_4_4 ?_
  refine r_aload0 dJ11_init_4_5 ?_
  refine p_J11_7_X5 dJ11_init_4_6 (by omega) (by first | assumption | exact g_us | (rw [g_un (by omega)]; assumption) | (rw [g_un (by omega)]; exact g_us) | (rw [g_un (by omega), g_un (by omega)]; assumption) | (rw [g_un (by omega), g_un (by omega)]; exact g_us) | (rw [g_un (by omega), g_un (by omega), g_un (by omega)]; assumption) | ((repeat (rw [g_un (by omega)])); first | exact g_us | assumption)) ?_
  refine r_aload0 dJ11_init_4_9 ?_
  refine r_getstatic dJ11_init_4_10 w.2.2.2.1.1 q523 (Or.inl rfl) ?_
  refine p_J11_17_X5 dJ11_init_4_13 (by omega) g_us ?_ rfl (nr_A hU) (ft_A hU)
  refine r_aload0 dJ11_init_4_16 ?_
  refine r_getstatic dJ11_init_4_17 w.2.2.2.1.2.2.1 q525 (Or.inl rfl) ?_
  refine p_J11_24_X5 dJ11_init_4_20 (by omega) g_us ?_ rfl (nr_O hV) (ft_O hV)
  refine r_aload0 dJ11_init_4_23 ?_
  refine r_fill (u := c_U W) 1 4 dJ11_init_4_24 gk_X5 (by decide) ⟨rfl, rfl, rfl⟩ (by decide) ⟨rfl, rfl, rfl⟩ q531 q2160 hb g_us rfl rfl w.2.2.2.1.1 hU (by omega) rfl (Nat.le_of_ble_eq_true rfl) ?_
  refine r_pop dJ11_init_4_27 ?_
  refine r_aload0 dJ11_init_4_28 ?_
  refine r_aloadZ1 dJ11_init_4_29 ?_
  refine p_J11_31_X5 dJ11_init_4_30 (by omega) g_us ?_
  refine r_aload0 dJ11_init_4_33 ?_
  refine r_aloadZ2 dJ11_init_4_34 ?_
  refine p_J11_7_X5 dJ11_init_4_35 (by omega) g_us ?_
  exact r_return dJ11_init_4_38 rfl (⟨by rw [g_up_up, g_up_up, g_up_up, g_up_up], rfl⟩)

theorem k_J12_init_4_X5 {v9 : Value} (w : cOK K W) (hb : k_b K ≤ a) (ho : h a = some (g_ob 3 [.null, .null, .null, .null, .null, .int (nI 0), v9])) : g_Met K mJ12_init_4 4 0 0 [.ref a, .null, .null] h n (gV fun h' n' => h' = g_up h a (g_ob 3 [.null, c_U W, c_V W, .null, .null, .int (nI 0), v9]) ∧ n' = n) gN := by
  refine g_Met.of (M := mJ12_init_4) (L := [some (.ref a), some (.null), some (.null)]) (by decide +kernel) (Nat.le_of_ble_eq_true rfl) rfl ?_
  refine r_aload0 dJ12_init_4_0 ?_
  refine r_aloadZ1 dJ12_init_4_1 ?_
  refine r_aloadZ2 dJ12_init_4_2 ?_
  refine r_callI (M' := mJ11_init_4) _ dJ12_init_4_3 q2175 q2176 rfl rfl rfl (lw_all_tbl q2177) q139 (by exact pl_J11_init_4)  ((k_J11_init_4_X5 w hb ho)) (by omega) (Nat.le_of_ble_eq_true rfl) (by omega) (by omega) rfl (Nat.le_of_ble_eq_true rfl) rfl (kV fun h3 n3 e3 => ?_) kN
  obtain ⟨q8, q7⟩ := e3; have q8 := q8.symm; have q7 := q7.symm; subst q8; subst q7
  exact r_return dJ12_init_4_6 rfl (⟨rfl, rfl⟩)

theorem k_X4_init_X5 {v9 : Value} (w : cOK K W) (hb : k_b K ≤ a) (ho : h a = some (g_ob 3 [.null, .null, .null, .null, .null, .int (nI 0), v9])) : g_Met K mX4_init 5 0 0 [.ref a, .null] h n (gV fun h' n' => h' = g_up h a (g_ob 3 [.null, c_U W, c_V W, .null, .null, .int (nI 0), v9]) ∧ n' = n) gN := by
  refine g_Met.of (M := mX4_init) (L := [some (.ref a), some (.null)]) (by decide +kernel) (Nat.le_of_ble_eq_true rfl) rfl ?_
  refine r_aload0 dX4_init_0 ?_
  refine r_null dX4_init_1 ?_
  refine r_aloadZ1 dX4_init_2 ?_
  refine r_callI (M' := mJ12_init_4) _ dX4_init_3 q2172 q2173 rfl rfl rfl (lw_all_tbl q2174) q140 (by exact pl_J12_init_4)  ((k_J12_init_4_X5 w hb ho)) (by omega) (Nat.le_of_ble_eq_true rfl) (by omega) (by omega) rfl (Nat.le_of_ble_eq_true rfl) rfl (kV fun h3 n3 e3 => ?_) kN
  obtain ⟨q8, q7⟩ := e3; have q8 := q8.symm; have q7 := q7.symm; subst q8; subst q7
  exact r_return dX4_init_6 rfl (⟨rfl, rfl⟩)

theorem k_J11_init_4_X16 {v9 : Value} (w : cOK K W) (hb : k_b K ≤ a) (ho : h a = some (g_ob 14 [.null, .null, .null, .null, .null, .int (nI 0), v9])) : g_Met K mJ11_init_4 3 0 0 [.ref a, .null, .null] h n (gV fun h' n' => h' = g_up h a (g_ob 14 [.null, c_U W, c_V W, .null, .null, .int (nI 0), v9]) ∧ n' = n) gN := by
  have hU := w.2.2.2.1.2.1
  have hV := w.2.2.2.1.2.2.2
  refine g_Met.of (M := mJ11_init_4) (L := [some (.ref a), some (.null), some (.null)]) (by decide +kernel) (Nat.le_of_ble_eq_true rfl) rfl ?_
  refine r_aload0 dJ11_init_4_0 ?_
  refine r_objInit dJ11_init_4_1 q522 q200 q201 rfl (by omega) (Nat.le_of_ble_eq_true rfl) ?_
  refine r_aload0 dJ11_init_4_4 ?_
  refine r_aload0 dJ11_init_4_5 ?_
  refine p_J11_7_X16 dJ11_init_4_6 (by omega) (by first | assumption | exact g_us | (rw [g_un (by omega)]; assumption) | (rw [g_un (by omega)]; exact g_us) | (rw [g_un (by omega), g_un (by omega)]; assumption) | (rw [g_un (by omega), g_un (by omega)]; exact g_us) | (rw [g_un (by omega), g_un (by omega), g_un (by omega)]; assumption) | ((repeat (rw [g_un (by omega)])); first | exact g_us | assumption)) ?_
  refine r_aload0 dJ11_init_4_9 ?_
  refine r_getstatic dJ11_init_4_10 w.2.2.2.1.1 q523 (Or.inl rfl) ?_
  refine p_J11_17_X16 dJ11_init_4_13 (by omega) g_us ?_ rfl (nr_A hU) (ft_A hU)
  refine r_aload0 dJ11_init_4_16 ?_
  refine r_getstatic dJ11_init_4_17 w.2.2.2.1.2.2.1 q525 (Or.inl rfl) ?_
  refine p_J11_24_X16 dJ11_init_4_20 (by omega) g_us ?_ rfl (nr_O hV) (ft_O hV)
  refine r_aload0 dJ11_init_4_23 ?_
  refine r_fill (u := c_U W) 1 4 dJ11_init_4_24 gk_X16 (by decide) ⟨rfl, rfl, rfl⟩ (by decide) ⟨rfl, rfl, rfl⟩ q532 q3053 hb g_us rfl rfl w.2.2.2.1.1 hU (by omega) rfl (Nat.le_of_ble_eq_true rfl) ?_
  refine r_pop dJ11_init_4_27 ?_
  refine r_aload0 dJ11_init_4_28 ?_
  refine r_aloadZ1 dJ11_init_4_29 ?_
  refine p_J11_31_X16 dJ11_init_4_30 (by omega) g_us ?_
  refine r_aload0 dJ11_init_4_33 ?_
  refine r_aloadZ2 dJ11_init_4_34 ?_
  refine p_J11_7_X16 dJ11_init_4_35 (by omega) g_us ?_
  exact r_return dJ11_init_4_38 rfl (⟨by rw [g_up_up, g_up_up, g_up_up, g_up_up], rfl⟩)

theorem k_J12_init_4_X16 {v9 : Value} (w : cOK K W) (hb : k_b K ≤ a) (ho : h a = some (g_ob 14 [.null, .null, .null, .null, .null, .int (nI 0), v9])) : g_Met K mJ12_init_4 4 0 0 [.ref a, .null, .null] h n (gV fun h' n' => h' = g_up h a (g_ob 14 [.null, c_U W, c_V W, .null, .null, .int (nI 0), v9]) ∧ n' = n) gN := by
  refine g_Met.of (M := mJ12_init_4) (L := [some (.ref a), some (.null), some (.null)]) (by decide +kernel) (Nat.le_of_ble_eq_true rfl) rfl ?_
  refine r_aload0 dJ12_init_4_0 ?_
  refine r_aloadZ1 dJ12_init_4_1 ?_
  refine r_aloadZ2 dJ12_init_4_2 ?_
  refine r_callI (M' := mJ11_init_4) _ dJ12_init_4_3 q2175 q2176 rfl rfl rfl (lw_all_tbl q2177) q139 (by exact pl_J11_init_4)  ((k_J11_init_4_X16 w hb ho)) (by omega) (Nat.le_of_ble_eq_true rfl) (by omega) (by omega) rfl (Nat.le_of_ble_eq_true rfl) rfl (kV fun h3 n3 e3 => ?_) kN
  obtain ⟨q8, q7⟩ := e3; have q8 := q8.symm; have q7 := q7.symm; subst q8; subst q7
  exact r_return dJ12_init_4_6 rfl (⟨rfl, rfl⟩)

theorem k_X4_init_X16 {v9 : Value} (w : cOK K W) (hb : k_b K ≤ a) (ho : h a = some (g_ob 14 [.null, .null, .null, .null, .null, .int (nI 0), v9])) : g_Met K mX4_init 5 0 0 [.ref a, .null] h n (gV fun h' n' => h' = g_up h a (g_ob 14 [.null, c_U W, c_V W, .null, .null, .int (nI 0), v9]) ∧ n' = n) gN := by
  refine g_Met.of (M := mX4_init) (L := [some (.ref a), some (.null)]) (by decide +kernel) (Nat.le_of_ble_eq_true rfl) rfl ?_
  refine r_aload0 dX4_init_0 ?_
  refine r_null dX4_init_1 ?_
  refine r_aloadZ1 dX4_init_2 ?_
  refine r_callI (M' := mJ12_init_4) _ dX4_init_3 q2172 q2173 rfl rfl rfl (lw_all_tbl q2174) q140 (by exact pl_J12_init_4)  ((k_J12_init_4_X16 w hb ho)) (by omega) (Nat.le_of_ble_eq_true rfl) (by omega) (by omega) rfl (Nat.le_of_ble_eq_true rfl) rfl (kV fun h3 n3 e3 => ?_) kN
  obtain ⟨q8, q7⟩ := e3; have q8 := q8.symm; have q7 := q7.symm; subst q8; subst q7
  exact r_return dX4_init_6 rfl (⟨rfl, rfl⟩)

theorem k_J11_init_4_X18 {v9 : Value} {b : Nat} (w : cOK K W) (hb : k_b K ≤ a) (ho : h a = some (g_ob 16 [.null, .null, .null, .null, .null, .int (nI 0), v9])) : g_Met K mJ11_init_4 3 0 0 [.ref a, .null, .ref b] h n (gV fun h' n' => h' = g_up h a (g_ob 16 [.ref b, c_U W, c_V W, .null, .null, .int (nI 0), v9]) ∧ n' = n) gN := by
  have hU := w.2.2.2.1.2.1
  have hV := w.2.2.2.1.2.2.2
  refine g_Met.of (M := mJ11_init_4) (L := [some (.ref a), some (.null), some (.ref b)]) (by decide +kernel) (Nat.le_of_ble_eq_true rfl) rfl ?_
  refine r_aload0 dJ11_init_4_0 ?_
  refine r_objInit dJ11_init_4_1 q522 q200 q201 rfl (by omega) (Nat.le_of_ble_eq_true rfl) ?_
  refine r_aload0 dJ11_init_4_4 ?_
  refine r_aload0 dJ11_init_4_5 ?_
  refine p_J11_7_X18 dJ11_init_4_6 (by omega) (by first | assumption | exact g_us | (rw [g_un (by omega)]; assumption) | (rw [g_un (by omega)]; exact g_us) | (rw [g_un (by omega), g_un (by omega)]; assumption) | (rw [g_un (by omega), g_un (by omega)]; exact g_us) | (rw [g_un (by omega), g_un (by omega), g_un (by omega)]; assumption) | ((repeat (rw [g_un (by omega)])); first | exact g_us | assumption)) ?_
  refine r_aload0 dJ11_init_4_9 ?_
  refine r_getstatic dJ11_init_4_10 w.2.2.2.1.1 q523 (Or.inl rfl) ?_
  refine p_J11_17_X18 dJ11_init_4_13 (by omega) g_us ?_ rfl (nr_A hU) (ft_A hU)
  refine r_aload0 dJ11_init_4_16 ?_
  refine r_getstatic dJ11_init_4_17 w.2.2.2.1.2.2.1 q525 (Or.inl rfl) ?_
  refine p_J11_24_X18 dJ11_init_4_20 (by omega) g_us ?_ rfl (nr_O hV) (ft_O hV)
  refine r_aload0 dJ11_init_4_23 ?_
  refine r_fill (u := c_U W) 1 4 dJ11_init_4_24 gk_X18 (by decide) ⟨rfl, rfl, rfl⟩ (by decide) ⟨rfl, rfl, rfl⟩ q530 q3231 hb g_us rfl rfl w.2.2.2.1.1 hU (by omega) rfl (Nat.le_of_ble_eq_true rfl) ?_
  refine r_pop dJ11_init_4_27 ?_
  refine r_aload0 dJ11_init_4_28 ?_
  refine r_aloadZ1 dJ11_init_4_29 ?_
  refine p_J11_31_X18 dJ11_init_4_30 (by omega) g_us ?_
  refine r_aload0 dJ11_init_4_33 ?_
  refine r_aload2 dJ11_init_4_34 ?_
  refine p_J11_7_X18 dJ11_init_4_35 (by omega) g_us ?_
  exact r_return dJ11_init_4_38 rfl (⟨by rw [g_up_up, g_up_up, g_up_up, g_up_up], rfl⟩)

theorem k_J12_init_4_X18 {v9 : Value} {b : Nat} (w : cOK K W) (hb : k_b K ≤ a) (ho : h a = some (g_ob 16 [.null, .null, .null, .null, .null, .int (nI 0), v9])) : g_Met K mJ12_init_4 4 0 0 [.ref a, .null, .ref b] h n (gV fun h' n' => h' = g_up h a (g_ob 16 [.ref b, c_U W, c_V W, .null, .null, .int (nI 0), v9]) ∧ n' = n) gN := by
  refine g_Met.of (M := mJ12_init_4) (L := [some (.ref a), some (.null), some (.ref b)]) (by decide +kernel) (Nat.le_of_ble_eq_true rfl) rfl ?_
  refine r_aload0 dJ12_init_4_0 ?_
  refine r_aloadZ1 dJ12_init_4_1 ?_
  refine r_aload2 dJ12_init_4_2 ?_
  refine r_callI (M' := mJ11_init_4) _ dJ12_init_4_3 q2175 q2176 rfl rfl rfl (lw_all_tbl q2177) q139 (by exact pl_J11_init_4)  ((k_J11_init_4_X18 w hb ho)) (by omega) (Nat.le_of_ble_eq_true rfl) (by omega) (by omega) rfl (Nat.le_of_ble_eq_true rfl) rfl (kV fun h3 n3 e3 => ?_) kN
  obtain ⟨q8, q7⟩ := e3; have q8 := q8.symm; have q7 := q7.symm; subst q8; subst q7
  exact r_return dJ12_init_4_6 rfl (⟨rfl, rfl⟩)

theorem k_X4_init_X18 {v9 : Value} {b : Nat} (w : cOK K W) (hb : k_b K ≤ a) (ho : h a = some (g_ob 16 [.null, .null, .null, .null, .null, .int (nI 0), v9])) : g_Met K mX4_init 5 0 0 [.ref a, .ref b] h n (gV fun h' n' => h' = g_up h a (g_ob 16 [.ref b, c_U W, c_V W, .null, .null, .int (nI 0), v9]) ∧ n' = n) gN := by
  refine g_Met.of (M := mX4_init) (L := [some (.ref a), some (.ref b)]) (by decide +kernel) (Nat.le_of_ble_eq_true rfl) rfl ?_
  refine r_aload0 dX4_init_0 ?_
  refine r_null dX4_init_1 ?_
  refine r_aload1 dX4_init_2 ?_
  refine r_callI (M' := mJ12_init_4) _ dX4_init_3 q2172 q2173 rfl rfl rfl (lw_all_tbl q2174) q140 (by exact pl_J12_init_4)  ((k_J12_init_4_X18 w hb ho)) (by omega) (Nat.le_of_ble_eq_true rfl) (by omega) (by omega) rfl (Nat.le_of_ble_eq_true rfl) rfl (kV fun h3 n3 e3 => ?_) kN
  obtain ⟨q8, q7⟩ := e3; have q8 := q8.symm; have q7 := q7.symm; subst q8; subst q7
  exact r_return dX4_init_6 rfl (⟨rfl, rfl⟩)

theorem k_X5_init {c : Int32} (hc : narrow .char (.int c) = .int c) (hf : fits .char (.int c) = true) (w : cOK K W) (hb : k_b K ≤ a) {v9 : Value} (ho : h a = some (g_ob 3 [.null, .null, .null, .null, .null, .int (nI 0), v9])) : g_Met K mX5_init 6 0 0 [.ref a, .int c] h n (gV fun h' n' => h' = g_up h a (g_ob 3 [.null, c_U W, c_V W, .null, .null, .int (nI 0), .int c]) ∧ n' = n) gN := by
  refine g_Met.of (M := mX5_init) (L := [some (.ref a), some (.int c)]) (by decide +kernel) (Nat.le_of_ble_eq_true rfl) rfl ?_
  refine r_aload0 dX5_init_0 ?_
  refine r_null dX5_init_1 ?_
  refine r_callI (M' := mX4_init) _ dX5_init_2 q2169 q2170 rfl rfl rfl (lw_all_tbl q2171) q141 (by exact pl_X4_init)  ((k_X4_init_X5 w hb ho)) (by omega) (Nat.le_of_ble_eq_true rfl) (by omega) (by omega) rfl (Nat.le_of_ble_eq_true rfl) rfl (kV fun h2 n2 e2 => ?_) kN
  obtain ⟨q8, q7⟩ := e2; have q8 := q8.symm; have q7 := q7.symm; subst q8; subst q7
  refine r_aload0 dX5_init_5 ?_
  refine r_iload1 dX5_init_6 ?_
  refine p_X5_7_X5 dX5_init_7 (by omega) g_us ?_ rfl rfl hc hf
  exact r_return dX5_init_10 rfl (⟨by rw [g_up_up], rfl⟩)
theorem k_demand {p : Prop} [Decidable p] {c : Nat} (hc : narrow .char (.int (nI c)) = .int (nI c)) (hf : fits .char (.int (nI c)) = true) (w : cOK K W) : g_Met K mX1_demand 7 1 7 [.int (nB p), .int (nI c)] h n (gV fun h' n' => p ∧ h' = h ∧ n' = n) (fun q h' n' => ¬ p ∧ q = n ∧ h' = g_up h n (g_ob 3 [.null, c_U W, c_V W, .null, .null, .int (nI 0), .int (nI c)]) ∧ n' = n + 1) := by
  refine g_Met.facts fun f1 f2 f3 => ?_
  refine g_Met.of (M := mX1_demand) (L := [some (.int (nB p)), some (.int (nI c))]) (by decide +kernel) (Nat.le_of_ble_eq_true rfl) rfl ?_
  refine r_iload0 dX1_demand_0 ?_
  refine r_if_neB (tgt := 13) dX1_demand_1 (by decide) (fun c1 => ?_) (fun c1 => ?_)
  · exact r_return dX1_demand_13 rfl (⟨c1, rfl, rfl⟩)
  · refine n_X1_1 dX1_demand_4 (by omega) (by omega) ?_
    refine r_dup dX1_demand_7 ?_
    refine r_iload1 dX1_demand_8 ?_
    refine r_callI (M' := mX5_init) _ dX1_demand_9 q2166 q2167 rfl rfl rfl (lw_all_tbl q2168) q142 (by exact pl_X5_init)  ((k_X5_init hc hf w f1 g_us)) (by omega) (Nat.le_of_ble_eq_true rfl) (by omega) (by omega) rfl (Nat.le_of_ble_eq_true rfl) rfl (kV fun h9 n9 e9 => ?_) kN
    obtain ⟨q8, q7⟩ := e9; have q8 := q8.symm; have q7 := q7.symm; subst q8; subst q7
    refine r_athrow dX1_demand_12 ?_
    exact r_out (by intro x hx; cases hx) ⟨c1, rfl, by rw [g_up_up], rfl⟩
end
