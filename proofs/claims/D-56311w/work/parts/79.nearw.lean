/-! nearest fractions: the walks -/
set_option maxRecDepth 100000
theorem lN9_sub {a b : Nat} (h : b ≤ a) : lN a - lN b = lN (a - b) := by
  have e : lN (a - b) + lN b = lN a := by rw [lN_add, Nat.sub_add_cancel h]
  rw [← e]
  exact Int64.add_sub_cancel _ _
theorem lN_ti {a : Nat} (h : a < 9223372036854775808) : (lN a).toInt = (a : Int) := Int64.toInt_ofNat_of_lt h
theorem lN9_le {a b : Nat} (ha : a < 9223372036854775808) (hb : b < 9223372036854775808) : lN a ≤ lN b ↔ a ≤ b := by
  rw [Int64.le_iff_toInt_le, lN_ti ha, lN_ti hb]
  omega
theorem lN9_lt {a b : Nat} (ha : a < 9223372036854775808) (hb : b < 9223372036854775808) : lN a < lN b ↔ a < b := by
  rw [Int64.lt_iff_toInt_lt, lN_ti ha, lN_ti hb]
  omega
theorem lN_inj {a b : Nat} (ha : a < 9223372036854775808) (hb : b < 9223372036854775808) : lN a = lN b ↔ a = b := by
  rw [← Int64.toInt_inj, lN_ti ha, lN_ti hb]
  omega
theorem lN_div {a b : Nat} (ha : a < 9223372036854775808) (hb : b < 9223372036854775808) (h0 : 0 < b) : lN a / lN b = lN (a / b) := by
  apply Int64.toInt_inj.mp
  have q : a / b ≤ a := Nat.div_le_self _ _
  rw [Int64.toInt_div, lN_ti ha, lN_ti hb, lN_ti (by omega), Int.tdiv_eq_ediv_of_nonneg (by omega), ← Int.natCast_ediv]
  generalize a / b = k at q
  rw [Int.bmod_eq_of_le] <;> omega
theorem lc_gt {a b : Nat} (ha : a < 9223372036854775808) (hb : b < 9223372036854775808) : 0 < lg_cmp (lN a) (lN b) ↔ b < a := (lg_cmp_gt _ _).trans (lN9_lt hb ha)
theorem lc_le {a b : Nat} (ha : a < 9223372036854775808) (hb : b < 9223372036854775808) : lg_cmp (lN a) (lN b) ≤ 0 ↔ a ≤ b := (lg_cmp_le _ _).trans (lN9_le ha hb)
theorem lc_ge {a b : Nat} (ha : a < 9223372036854775808) (hb : b < 9223372036854775808) : 0 ≤ lg_cmp (lN a) (lN b) ↔ b ≤ a := (lg_cmp_ge _ _).trans (lN9_le hb ha)
theorem lc_lt {a b : Nat} (ha : a < 9223372036854775808) (hb : b < 9223372036854775808) : lg_cmp (lN a) (lN b) < 0 ↔ a < b := (lg_cmp_lt _ _).trans (lN9_lt ha hb)
theorem lc_eq {a b : Nat} (ha : a < 9223372036854775808) (hb : b < 9223372036854775808) : lg_cmp (lN a) (lN b) = 0 ↔ a = b := (lg_cmp_eq _ _).trans (lN_inj ha hb)
theorem lN_abs {a b : Nat} (ha : a < 4611686018427387904) (hb : b < 4611686018427387904) : (lg_cmp (lN a - lN b) (lN 0) ≥ 0 → lN a - lN b = lN ((a - b) + (b - a))) ∧ (¬ lg_cmp (lN a - lN b) (lN 0) ≥ 0 → -(lN a - lN b) = lN ((a - b) + (b - a))) := by
  rcases Nat.lt_or_ge a b with c | c
  · have e : -(lN a - lN b) = lN (b - a) := by rw [Int64.neg_sub, lN9_sub (Nat.le_of_lt c)]
    refine ⟨fun z => absurd z fun z => ?_, fun _ => by rw [e]; congr 1; omega⟩
    have z2 : lN 0 ≤ lN a - lN b := (lg_cmp_ge _ _).mp z
    have e2 : lN a - lN b = -lN (b - a) := by rw [← e, Int64.neg_neg]
    rw [e2, Int64.le_iff_toInt_le, lN_ti (by decide)] at z2
    have e3 : (-lN (b - a)).toInt = -((b - a : Nat) : Int) := by
      rw [Int64.toInt_neg, lN_ti (by omega), Int.bmod_eq_of_le] <;> omega
    rw [e3] at z2
    omega
  · rw [lN9_sub c]
    refine ⟨fun _ => by congr 1; omega, fun z => absurd ((lc_ge (by omega) (by decide)).mpr (Nat.zero_le _)) z⟩
abbrev nrO (w b : Nat) : g_C := g_ob 9 [.long (lN w), .long (lN b)]
theorem nfF_dd {w b d : Nat} (hb : 0 < b) : dd w b (nfF w b d) d ≤ b ∧ nfF w b d * b ≤ w * d + b := by
  have q2 : w * d / b * b ≤ w * d := Nat.div_mul_le_self _ _
  have q3 : (w * d / b + 1) * b = w * d / b * b + b := by rw [Nat.add_mul, Nat.one_mul]
  unfold nfF
  split
  · exact ⟨dd_f hb, by omega⟩
  · exact ⟨dd_g hb, by omega⟩
section
variable {K : g_K} {W : c_W} {s n w b : Nat} {h : g_P}
theorem k_absJ {x y : Nat} (hx : x < 4611686018427387904) (hy : y < 4611686018427387904) : g_Met K mJ16_abs 0 0 0 [.long (lN x - lN y)] h n (gJ fun r h' n' => r = lN ((x - y) + (y - x)) ∧ h' = h ∧ n' = n) gN := by
  refine g_Met.of (M := mJ16_abs) (L := [some (.long (lN x - lN y)), none]) (by decide +kernel) (Nat.le_of_ble_eq_true rfl) rfl ?_
  refine r_lload0 dJ16_abs_0 ?_
  refine r_lconst (v := lN 0) dJ16_abs_1 (by decide) ?_
  refine r_lcmp dJ16_abs_2 rfl ?_
  refine r_if_ge (tgt := 11) dJ16_abs_3 (by decide) (fun c3 => ?_) (fun c3 => ?_)
  · refine r_lload0 dJ16_abs_11 ?_
    exact r_lreturn dJ16_abs_12 rfl (⟨(lN_abs hx hy).1 c3, rfl, rfl⟩)
  · refine r_lload0 dJ16_abs_6 ?_
    refine r_lneg dJ16_abs_7 rfl ?_
    refine r_goto (tgt := 12) dJ16_abs_8 (by decide) ?_
    exact r_lreturn dJ16_abs_12 rfl (⟨(lN_abs hx hy).2 c3, rfl, rfl⟩)
theorem k_dist {x y : Nat} (ho : h s = some (nrO w b)) (hx : x * b < 4611686018427387904) (hy : y * w < 4611686018427387904) : g_Met K mX11_distance 1 0 0 [.ref s, .long (lN x), .long (lN y)] h n (gJ fun r h' n' => r = lN (dd w b x y) ∧ h' = h ∧ n' = n) gN := by
  refine g_Met.of (M := mX11_distance) (L := [some (.ref s), some (.long (lN x)), none, some (.long (lN y)), none]) (by decide +kernel) (Nat.le_of_ble_eq_true rfl) rfl ?_
  refine r_lload1 dX11_distance_0 ?_
  refine r_aload0 dX11_distance_1 ?_
  refine f_X11_21_X11 dX11_distance_2 ho ?_
  refine r_lmul dX11_distance_5 (lN_mul _ _) ?_
  refine r_lload3 dX11_distance_6 ?_
  refine r_aload0 dX11_distance_7 ?_
  refine f_X11_16_X11 dX11_distance_8 ho ?_
  refine r_lmul dX11_distance_11 (lN_mul _ _) ?_
  refine r_lsub dX11_distance_12 rfl ?_
  refine r_callS (M' := mJ16_abs) _ dX11_distance_13 q1877 q1878 rfl (lw_all_tbl q1879) q148 (by exact pl_J16_abs)  ((k_absJ hx hy)) (by omega) (Nat.le_of_ble_eq_true rfl) (by omega) (by omega) rfl (Nat.le_of_ble_eq_true rfl) rfl (kJ fun r13 h13 n13 e13 => ?_) kN
  obtain ⟨q9, q8, q7⟩ := e13; have q9 := q9.symm; have q8 := q8.symm; have q7 := q7.symm; subst q9; subst q8; subst q7
  exact r_lreturn dX11_distance_16 rfl (⟨by unfold dd; rw [Nat.mul_comm w, Nat.add_comm], rfl, rfl⟩)
theorem k_nearestFor {d : Nat} (ho : h s = some (nrO w b)) (hw : w ≤ 119988) (hb0 : 0 < b) (hb : b ≤ 119988) (hd : d ≤ 99) : g_Met K mX11_nearestFor 2 0 0 [.ref s, .long (lN d)] h n (gJ fun r h' n' => r = lN (nfF w b d) ∧ h' = h ∧ n' = n) gN := by
  have q1 : w * d ≤ 119988 * 99 := Nat.mul_le_mul hw hd
  have q2 : w * d / b * b ≤ w * d := Nat.div_mul_le_self _ _
  have q3 : (w * d / b + 1) * b = w * d / b * b + b := by rw [Nat.add_mul, Nat.one_mul]
  have q4 : d * w = w * d := Nat.mul_comm ..
  have q5 : dd w b (w * d / b) d ≤ b := dd_f hb0
  have q6 : dd w b (w * d / b + 1) d ≤ b := dd_g hb0
  refine g_Met.of (M := mX11_nearestFor) (L := [some (.ref s), some (.long (lN d)), none, none, none]) (by decide +kernel) (Nat.le_of_ble_eq_true rfl) rfl ?_
  refine r_aload0 dX11_nearestFor_0 ?_
  refine f_X11_16_X11 dX11_nearestFor_1 ho ?_
  refine r_lload1 dX11_nearestFor_4 ?_
  refine r_lmul dX11_nearestFor_5 (lN_mul _ _) ?_
  refine r_aload0 dX11_nearestFor_6 ?_
  refine f_X11_21_X11 dX11_nearestFor_7 ho ?_
  refine r_ldiv dX11_nearestFor_10 (fun z => by have := (lN_inj (b := 0) (by omega) (by decide)).mp z; omega) (lN_div (by omega) (by omega) hb0) ?_
  refine r_lstore3 dX11_nearestFor_11 ?_
  refine r_aload0 dX11_nearestFor_12 ?_
  refine r_lload3 dX11_nearestFor_13 ?_
  refine r_lload1 dX11_nearestFor_14 ?_
  refine r_callV (M' := mX11_distance) _ dX11_nearestFor_15 q1873 q1875 qs17 rfl (lw_all_tbl q1876) q181 (by exact pl_X11_distance) gc_X11 (by first | assumption | exact g_us | (rw [g_un (by omega)]; assumption) | (rw [g_un (by omega)]; exact g_us) | (rw [g_un (by omega), g_un (by omega)]; assumption) | (rw [g_un (by omega), g_un (by omega)]; exact g_us) | (rw [g_un (by omega), g_un (by omega), g_un (by omega)]; assumption) | ((repeat (rw [g_un (by omega)])); first | exact g_us | assumption)) ((k_dist ho (by omega) (by omega))) (by omega) (Nat.le_of_ble_eq_true rfl) (by omega) (by omega) rfl (Nat.le_of_ble_eq_true rfl) rfl (kJ fun r15 h15 n15 e15 => ?_) kN
  obtain ⟨q9, q8, q7⟩ := e15; have q9 := q9.symm; have q8 := q8.symm; have q7 := q7.symm; subst q9; subst q8; subst q7
  refine r_aload0 dX11_nearestFor_18 ?_
  refine r_lload3 dX11_nearestFor_19 ?_
  refine r_lconst (v := lN 1) dX11_nearestFor_20 (by decide) ?_
  refine r_ladd dX11_nearestFor_21 (lN_add _ _) ?_
  refine r_lload1 dX11_nearestFor_22 ?_
  refine r_callV (M' := mX11_distance) _ dX11_nearestFor_23 q1873 q1875 qs17 rfl (lw_all_tbl q1876) q181 (by exact pl_X11_distance) gc_X11 (by first | assumption | exact g_us | (rw [g_un (by omega)]; assumption) | (rw [g_un (by omega)]; exact g_us) | (rw [g_un (by omega), g_un (by omega)]; assumption) | (rw [g_un (by omega), g_un (by omega)]; exact g_us) | (rw [g_un (by omega), g_un (by omega), g_un (by omega)]; assumption) | ((repeat (rw [g_un (by omega)])); first | exact g_us | assumption)) ((k_dist ho (by omega) (by omega))) (by omega) (Nat.le_of_ble_eq_true rfl) (by omega) (by omega) rfl (Nat.le_of_ble_eq_true rfl) rfl (kJ fun r23 h23 n23 e23 => ?_) kN
  obtain ⟨q9, q8, q7⟩ := e23; have q9 := q9.symm; have q8 := q8.symm; have q7 := q7.symm; subst q9; subst q8; subst q7
  refine r_lcmp dX11_nearestFor_26 rfl ?_
  refine r_if_gt (tgt := 34) dX11_nearestFor_27 (by decide) (fun c27 => ?_) (fun c27 => ?_)
  · refine r_lload3 dX11_nearestFor_34 ?_
    refine r_lconst (v := lN 1) dX11_nearestFor_35 (by decide) ?_
    refine r_ladd dX11_nearestFor_36 (lN_add _ _) ?_
    exact r_lreturn dX11_nearestFor_37 rfl (⟨by unfold nfF; rw [if_neg (by have := (lc_gt (by omega) (by omega)).mp c27; omega)], rfl, rfl⟩)
  · refine r_lload3 dX11_nearestFor_30 ?_
    refine r_goto (tgt := 37) dX11_nearestFor_31 (by decide) ?_
    exact r_lreturn dX11_nearestFor_37 rfl (⟨by unfold nfF; rw [if_pos (by have := mt (lc_gt (by omega) (by omega)).mpr c27; omega)], rfl, rfl⟩)
theorem k_byTrying {l : Nat} (ho : h s = some (nrO w b)) (hw : w ≤ 119988) (hb0 : 0 < b) (hb : b ≤ 119988) (hl : 1 ≤ l) (hl2 : l ≤ 99) : g_Met K mX11_byTrying 3 0 0 [.ref s, .int (nI l)] h n (gI fun r h' n' => r = nI (trF w b (l - 1)) ∧ h' = h ∧ n' = n) gN := by
  have loop : ∀ (g i : Nat) (o4 o5 o6 o7 : Option Value), i + 1 + g = l → g_G K mX11_byTrying 3 0 0 (gI fun r h' n' => r = nI (trF w b (l - 1)) ∧ h' = h ∧ n' = n) gN 4 [some (.ref s), some (.int (nI l)), some (.int (nI (trF w b i))), some (.int (nI (i + 2))), o4, o5, o6, o7] [] h n := by
    intro g
    induction g with
    | zero =>
      intro i o4 o5 o6 o7 hj
      refine r_iload3 dX11_byTrying_4 ?_
      refine r_iload1 dX11_byTrying_5 ?_
      refine r_icmp_gtN (tgt := 63) dX11_byTrying_6 (by decide) (by omega) (by omega) (fun c6 => ?_) (fun c6 => absurd c6 (by omega))
      refine r_iload2 dX11_byTrying_63 ?_
      exact r_ireturn dX11_byTrying_64 rfl rfl (⟨by rw [show l - 1 = i by omega], rfl, rfl⟩)
    | succ g ih =>
      intro i o4 o5 o6 o7 hj
      have tb := trF_b (w := w) (b := b) i
      obtain ⟨a1, a2⟩ := nfF_dd (w := w) (d := i + 2) hb0
      obtain ⟨a3, a4⟩ := nfF_dd (w := w) (d := trF w b i) hb0
      have a5 : w * (i + 2) ≤ 119988 * 99 := Nat.mul_le_mul hw (by omega)
      have a6 : w * trF w b i ≤ 119988 * 99 := Nat.mul_le_mul hw (by omega)
      have a7 : (i + 2) * w = w * (i + 2) := Nat.mul_comm ..
      have a8 : trF w b i * w = w * trF w b i := Nat.mul_comm ..
      have a9 : dd w b (nfF w b (i + 2)) (i + 2) * trF w b i ≤ 119988 * 99 := Nat.mul_le_mul (by omega) (by omega)
      have a10 : dd w b (nfF w b (trF w b i)) (trF w b i) * (i + 2) ≤ 119988 * 99 := Nat.mul_le_mul (by omega) (by omega)
      refine r_iload3 dX11_byTrying_4 ?_
      refine r_iload1 dX11_byTrying_5 ?_
      refine r_icmp_gtN (tgt := 63) dX11_byTrying_6 (by decide) (by omega) (by omega) (fun c6 => absurd c6 (by omega)) (fun c6 => ?_)
      refine r_aload0 dX11_byTrying_9 ?_
      refine r_aload0 dX11_byTrying_10 ?_
      refine r_iload3 dX11_byTrying_11 ?_
      refine r_i2l dX11_byTrying_12 (i2l_nI (by omega)) ?_
      refine r_callV (M' := mX11_nearestFor) _ dX11_byTrying_13 q1888 q1890 qs19 rfl (lw_all_tbl q1891) q181 (by exact pl_X11_nearestFor) gc_X11 (by first | assumption | exact g_us | (rw [g_un (by omega)]; assumption) | (rw [g_un (by omega)]; exact g_us) | (rw [g_un (by omega), g_un (by omega)]; assumption) | (rw [g_un (by omega), g_un (by omega)]; exact g_us) | (rw [g_un (by omega), g_un (by omega), g_un (by omega)]; assumption) | ((repeat (rw [g_un (by omega)])); first | exact g_us | assumption)) ((k_nearestFor ho hw hb0 hb (by omega))) (by omega) (Nat.le_of_ble_eq_true rfl) (by omega) (by omega) rfl (Nat.le_of_ble_eq_true rfl) rfl (kJ fun r13 h13 n13 e13 => ?_) kN
      obtain ⟨q9, q8, q7⟩ := e13; have q9 := q9.symm; have q8 := q8.symm; have q7 := q7.symm; subst q9; subst q8; subst q7
      refine r_iload3 dX11_byTrying_16 ?_
      refine r_i2l dX11_byTrying_17 (i2l_nI (by omega)) ?_
      refine r_callV (M' := mX11_distance) _ dX11_byTrying_18 q1873 q1875 qs17 rfl (lw_all_tbl q1876) q181 (by exact pl_X11_distance) gc_X11 (by first | assumption | exact g_us | (rw [g_un (by omega)]; assumption) | (rw [g_un (by omega)]; exact g_us) | (rw [g_un (by omega), g_un (by omega)]; assumption) | (rw [g_un (by omega), g_un (by omega)]; exact g_us) | (rw [g_un (by omega), g_un (by omega), g_un (by omega)]; assumption) | ((repeat (rw [g_un (by omega)])); first | exact g_us | assumption)) ((k_dist ho (by omega) (by omega))) (by omega) (Nat.le_of_ble_eq_true rfl) (by omega) (by omega) rfl (Nat.le_of_ble_eq_true rfl) rfl (kJ fun r18 h18 n18 e18 => ?_) kN
      obtain ⟨q9, q8, q7⟩ := e18; have q9 := q9.symm; have q8 := q8.symm; have q7 := q7.symm; subst q9; subst q8; subst q7
      refine r_iload2 dX11_byTrying_21 ?_
      refine r_i2l dX11_byTrying_22 (i2l_nI (by omega)) ?_
      refine r_lmul dX11_byTrying_23 (lN_mul _ _) ?_
      refine r_lstore4 dX11_byTrying_24 ?_
      refine r_aload0 dX11_byTrying_26 ?_
      refine r_aload0 dX11_byTrying_27 ?_
      refine r_iload2 dX11_byTrying_28 ?_
      refine r_i2l dX11_byTrying_29 (i2l_nI (by omega)) ?_
      refine r_callV (M' := mX11_nearestFor) _ dX11_byTrying_30 q1888 q1890 qs19 rfl (lw_all_tbl q1891) q181 (by exact pl_X11_nearestFor) gc_X11 (by first | assumption | exact g_us | (rw [g_un (by omega)]; assumption) | (rw [g_un (by omega)]; exact g_us) | (rw [g_un (by omega), g_un (by omega)]; assumption) | (rw [g_un (by omega), g_un (by omega)]; exact g_us) | (rw [g_un (by omega), g_un (by omega), g_un (by omega)]; assumption) | ((repeat (rw [g_un (by omega)])); first | exact g_us | assumption)) ((k_nearestFor ho hw hb0 hb (by omega))) (by omega) (Nat.le_of_ble_eq_true rfl) (by omega) (by omega) rfl (Nat.le_of_ble_eq_true rfl) rfl (kJ fun r30 h30 n30 e30 => ?_) kN
      obtain ⟨q9, q8, q7⟩ := e30; have q9 := q9.symm; have q8 := q8.symm; have q7 := q7.symm; subst q9; subst q8; subst q7
      refine r_iload2 dX11_byTrying_33 ?_
      refine r_i2l dX11_byTrying_34 (i2l_nI (by omega)) ?_
      refine r_callV (M' := mX11_distance) _ dX11_byTrying_35 q1873 q1875 qs17 rfl (lw_all_tbl q1876) q181 (by exact pl_X11_distance) gc_X11 (by first | assumption | exact g_us | (rw [g_un (by omega)]; assumption) | (rw [g_un (by omega)]; exact g_us) | (rw [g_un (by omega), g_un (by omega)]; assumption) | (rw [g_un (by omega), g_un (by omega)]; exact g_us) | (rw [g_un (by omega), g_un (by omega), g_un (by omega)]; assumption) | ((repeat (rw [g_un (by omega)])); first | exact g_us | assumption)) ((k_dist ho (by omega) (by omega))) (by omega) (Nat.le_of_ble_eq_true rfl) (by omega) (by omega) rfl (Nat.le_of_ble_eq_true rfl) rfl (kJ fun r35 h35 n35 e35 => ?_) kN
      obtain ⟨q9, q8, q7⟩ := e35; have q9 := q9.symm; have q8 := q8.symm; have q7 := q7.symm; subst q9; subst q8; subst q7
      refine r_iload3 dX11_byTrying_38 ?_
      refine r_i2l dX11_byTrying_39 (i2l_nI (by omega)) ?_
      refine r_lmul dX11_byTrying_40 (lN_mul _ _) ?_
      refine r_lstore6 dX11_byTrying_41 ?_
      refine r_lload4 dX11_byTrying_43 ?_
      refine r_lload6 dX11_byTrying_45 ?_
      refine r_lcmp dX11_byTrying_47 rfl ?_
      refine r_if_ge (tgt := 55) dX11_byTrying_48 (by decide) (fun c48 => ?_) (fun c48 => ?_)
      · refine r_iload2 dX11_byTrying_55 ?_
        refine r_istore2 dX11_byTrying_56 ?_
        refine r_iinc3 dX11_byTrying_57 (ii1 _) ?_
        refine r_goto (tgt := 4) dX11_byTrying_60 (by decide) ?_
        have e : trF w b (i + 1) = trF w b i := if_neg (by have := (lc_ge (by omega) (by omega)).mp c48; omega)
        have z := ih (i + 1) (some (.long (lN (dd w b (nfF w b (i + 2)) (i + 2) * trF w b i)))) none (some (.long (lN (dd w b (nfF w b (trF w b i)) (trF w b i) * (i + 2))))) none (by omega)
        rw [e] at z
        exact z
      · refine r_iload3 dX11_byTrying_51 ?_
        refine r_goto (tgt := 56) dX11_byTrying_52 (by decide) ?_
        refine r_istore2 dX11_byTrying_56 ?_
        refine r_iinc3 dX11_byTrying_57 (ii1 _) ?_
        refine r_goto (tgt := 4) dX11_byTrying_60 (by decide) ?_
        have e : trF w b (i + 1) = i + 2 := if_pos (by have := mt (lc_ge (by omega) (by omega)).mpr c48; omega)
        have z := ih (i + 1) (some (.long (lN (dd w b (nfF w b (i + 2)) (i + 2) * trF w b i)))) none (some (.long (lN (dd w b (nfF w b (trF w b i)) (trF w b i) * (i + 2))))) none (by omega)
        rw [e] at z
        exact z
  refine g_Met.of (M := mX11_byTrying) (L := [some (.ref s), some (.int (nI l)), none, none, none, none, none, none]) (by decide +kernel) (Nat.le_of_ble_eq_true rfl) rfl ?_
  refine r_iconst (v := nI 1) dX11_byTrying_0 (by decide) ?_
  refine r_istore2 dX11_byTrying_1 ?_
  refine r_iconst (v := nI 2) dX11_byTrying_2 (by decide) ?_
  refine r_istore3 dX11_byTrying_3 ?_
  exact loop (l - 1) 0 _ _ _ _ (by omega)
theorem k_isLowNearer {lo p hi q : Nat} (ho : h s = some (nrO w b)) (hw : w ≤ 119988) (hp : p ≤ 99) (hq : q ≤ 99) (h1 : lo * b ≤ 2000000000) (h2 : hi * b ≤ 2000000000) : g_Met K mX11_isLowNearer 2 0 0 [.ref s, .long (lN lo), .long (lN p), .long (lN hi), .long (lN q)] h n (gI fun r h' n' => r = nB (hvL w b lo p hi q) ∧ h' = h ∧ n' = n) gN := by
  have q1 : w * p ≤ 119988 * 99 := Nat.mul_le_mul hw hp
  have q2 : w * q ≤ 119988 * 99 := Nat.mul_le_mul hw hq
  have q3 : p * w = w * p := Nat.mul_comm ..
  have q4 : q * w = w * q := Nat.mul_comm ..
  have q5 : dd w b lo p ≤ 3000000000 := by unfold dd; omega
  have q6 : dd w b hi q ≤ 3000000000 := by unfold dd; omega
  have q7 : dd w b lo p * q ≤ 3000000000 * 99 := Nat.mul_le_mul q5 hq
  have q8 : dd w b hi q * p ≤ 3000000000 * 99 := Nat.mul_le_mul q6 hp
  refine g_Met.of (M := mX11_isLowNearer) (L := [some (.ref s), some (.long (lN lo)), none, some (.long (lN p)), none, some (.long (lN hi)), none, some (.long (lN q)), none, none, none, none, none]) (by decide +kernel) (Nat.le_of_ble_eq_true rfl) rfl ?_
  refine r_aload0 dX11_isLowNearer_0 ?_
  refine r_lload1 dX11_isLowNearer_1 ?_
  refine r_lload3 dX11_isLowNearer_2 ?_
  refine r_callV (M' := mX11_distance) _ dX11_isLowNearer_3 q1873 q1875 qs17 rfl (lw_all_tbl q1876) q181 (by exact pl_X11_distance) gc_X11 (by first | assumption | exact g_us | (rw [g_un (by omega)]; assumption) | (rw [g_un (by omega)]; exact g_us) | (rw [g_un (by omega), g_un (by omega)]; assumption) | (rw [g_un (by omega), g_un (by omega)]; exact g_us) | (rw [g_un (by omega), g_un (by omega), g_un (by omega)]; assumption) | ((repeat (rw [g_un (by omega)])); first | exact g_us | assumption)) ((k_dist ho (by omega) (by omega))) (by omega) (Nat.le_of_ble_eq_true rfl) (by omega) (by omega) rfl (Nat.le_of_ble_eq_true rfl) rfl (kJ fun r3 h3 n3 e3 => ?_) kN
  obtain ⟨q9, q8, q7⟩ := e3; have q9 := q9.symm; have q8 := q8.symm; have q7 := q7.symm; subst q9; subst q8; subst q7
  refine r_lload7 dX11_isLowNearer_6 ?_
  refine r_lmul dX11_isLowNearer_8 (lN_mul _ _) ?_
  refine r_lstore9 dX11_isLowNearer_9 ?_
  refine r_aload0 dX11_isLowNearer_11 ?_
  refine r_lload5 dX11_isLowNearer_12 ?_
  refine r_lload7 dX11_isLowNearer_14 ?_
  refine r_callV (M' := mX11_distance) _ dX11_isLowNearer_16 q1873 q1875 qs17 rfl (lw_all_tbl q1876) q181 (by exact pl_X11_distance) gc_X11 (by first | assumption | exact g_us | (rw [g_un (by omega)]; assumption) | (rw [g_un (by omega)]; exact g_us) | (rw [g_un (by omega), g_un (by omega)]; assumption) | (rw [g_un (by omega), g_un (by omega)]; exact g_us) | (rw [g_un (by omega), g_un (by omega), g_un (by omega)]; assumption) | ((repeat (rw [g_un (by omega)])); first | exact g_us | assumption)) ((k_dist ho (by omega) (by omega))) (by omega) (Nat.le_of_ble_eq_true rfl) (by omega) (by omega) rfl (Nat.le_of_ble_eq_true rfl) rfl (kJ fun r16 h16 n16 e16 => ?_) kN
  obtain ⟨q9, q8, q7⟩ := e16; have q9 := q9.symm; have q8 := q8.symm; have q7 := q7.symm; subst q9; subst q8; subst q7
  refine r_lload3 dX11_isLowNearer_19 ?_
  refine r_lmul dX11_isLowNearer_20 (lN_mul _ _) ?_
  refine r_lstore11 dX11_isLowNearer_21 ?_
  refine r_lload9 dX11_isLowNearer_23 ?_
  refine r_lload11 dX11_isLowNearer_25 ?_
  refine r_lcmp dX11_isLowNearer_27 rfl ?_
  refine r_if_lt (tgt := 46) dX11_isLowNearer_28 (by decide) (fun c28 => ?_) (fun c28 => ?_)
  · refine r_iconst (v := nI 1) dX11_isLowNearer_46 (by decide) ?_
    refine r_goto (tgt := 51) dX11_isLowNearer_47 (by decide) ?_
    exact r_ireturn dX11_isLowNearer_51 rfl (by first | exact nB_nar | rfl) (⟨nB_t (Or.inl ((lc_lt (by omega) (by omega)).mp c28)), rfl, rfl⟩)
  · refine r_lload9 dX11_isLowNearer_31 ?_
    refine r_lload11 dX11_isLowNearer_33 ?_
    refine r_lcmp dX11_isLowNearer_35 rfl ?_
    refine r_if_ne (tgt := 50) dX11_isLowNearer_36 (by decide) (fun c36 => ?_) (fun c36 => ?_)
    · refine r_iconst (v := nI 0) dX11_isLowNearer_50 (by decide) ?_
      exact r_ireturn dX11_isLowNearer_51 rfl (by first | exact nB_nar | rfl) (⟨nB_f (fun z => by have y1 := mt (lc_lt (by omega) (by omega)).mpr c28; have y2 := mt (lc_eq (by omega) (by omega)).mpr c36; omega), rfl, rfl⟩)
    · refine r_lload3 dX11_isLowNearer_39 ?_
      refine r_lload7 dX11_isLowNearer_40 ?_
      refine r_lcmp dX11_isLowNearer_42 rfl ?_
      refine r_if_gt (tgt := 50) dX11_isLowNearer_43 (by decide) (fun c43 => ?_) (fun c43 => ?_)
      · refine r_iconst (v := nI 0) dX11_isLowNearer_50 (by decide) ?_
        exact r_ireturn dX11_isLowNearer_51 rfl (by first | exact nB_nar | rfl) (⟨nB_f (fun z => by have y1 := mt (lc_lt (by omega) (by omega)).mpr c28; have y3 := (lc_gt (by omega) (by omega)).mp c43; omega), rfl, rfl⟩)
      · refine r_iconst (v := nI 1) dX11_isLowNearer_46 (by decide) ?_
        refine r_goto (tgt := 51) dX11_isLowNearer_47 (by decide) ?_
        exact r_ireturn dX11_isLowNearer_51 rfl (by first | exact nB_nar | rfl) (⟨nB_t (by have y2 := (lc_eq (by omega) (by omega)).mp c36; have y3 := mt (lc_gt (by omega) (by omega)).mpr c43; exact Or.inr ⟨y2, by omega⟩), rfl, rfl⟩)
theorem k_byHalves {l f : Nat} (ho : h s = some (nrO w b)) (hw : w ≤ 119988) (hb0 : 0 < b) (hb : b ≤ 119988) (hl : 1 ≤ l) (hl2 : l ≤ 99) (hf : f ≤ 1) : g_Met K mX11_byHalves 3 0 0 [.ref s, .int (nI l), .int (nI f)] h n (gJ fun r h' n' => r = lN (if f = 0 then (nrF w b l).2 else (nrF w b l).1) ∧ h' = h ∧ n' = n) gN := by
  have bnd : ∀ {lo p hi q : Nat}, hvI w b l lo p hi q → lo * b ≤ 12000000 ∧ hi * b ≤ 1300000000 ∧ p * w ≤ 119988 * 99 ∧ q * w ≤ 119988 * 99 := fun {lo p hi q} i => by
    obtain ⟨i1, i2, i3, i4, i5, i6, i7⟩ := i
    have q1 : w * p ≤ 119988 * 99 := Nat.mul_le_mul hw (by omega)
    have q2 : w * q ≤ 119988 * 99 := Nat.mul_le_mul hw (by omega)
    have q3 : hi * b * 1 ≤ hi * b * p := Nat.mul_le_mul_left _ i1
    have q4 : hi * b * p = lo * b * q + b := by
      rw [show hi * b * p = hi * p * b by ac_rfl, i7, Nat.add_mul, Nat.one_mul]
      ac_rfl
    have q5 : lo * b * q ≤ 12000000 * 99 := Nat.mul_le_mul (by omega) (by omega)
    refine ⟨by omega, by omega, by rw [Nat.mul_comm]; exact q1, by rw [Nat.mul_comm]; exact q2⟩
  have tail : ∀ (lo p hi q : Nat) (o11 o12 o13 o14 : Option Value), hvI w b l lo p hi q → (dd w b lo p = 0 ∨ l < p + q) → g_G K mX11_byHalves 3 0 0 (gJ fun r h' n' => r = lN (if f = 0 then (nrF w b l).2 else (nrF w b l).1) ∧ h' = h ∧ n' = n) gN 96 [some (.ref s), some (.int (nI l)), some (.int (nI f)), some (.long (lN lo)), none, some (.long (lN p)), none, some (.long (lN hi)), none, some (.long (lN q)), none, o11, o12, o13, o14] [] h n := by
    intro lo p hi q o11 o12 o13 o14 i hs
    obtain ⟨z1, z2, z3, z4⟩ := bnd i
    obtain ⟨e1, e2⟩ := hv_end i hb0 hs
    obtain ⟨i1, i2, i3, i4, i5, i6, i7⟩ := i
    refine r_aload0 dX11_byHalves_96 ?_
    refine r_lload3 dX11_byHalves_97 ?_
    refine r_lload5 dX11_byHalves_98 ?_
    refine r_lload7 dX11_byHalves_100 ?_
    refine r_lload9 dX11_byHalves_102 ?_
    refine r_callV (M' := mX11_isLowNearer) _ dX11_byHalves_104 q1880 q1882 qs18 rfl (lw_all_tbl q1883) q181 (by exact pl_X11_isLowNearer) gc_X11 (by first | assumption | exact g_us | (rw [g_un (by omega)]; assumption) | (rw [g_un (by omega)]; exact g_us) | (rw [g_un (by omega), g_un (by omega)]; assumption) | (rw [g_un (by omega), g_un (by omega)]; exact g_us) | (rw [g_un (by omega), g_un (by omega), g_un (by omega)]; assumption) | ((repeat (rw [g_un (by omega)])); first | exact g_us | assumption)) ((k_isLowNearer ho hw (by omega) (by omega) (by omega) (by omega))) (by omega) (Nat.le_of_ble_eq_true rfl) (by omega) (by omega) rfl (Nat.le_of_ble_eq_true rfl) rfl (kI fun r104 h104 n104 e104 => ?_) kN
    obtain ⟨q9, q8, q7⟩ := e104; have q9 := q9.symm; have q8 := q8.symm; have q7 := q7.symm; subst q9; subst q8; subst q7
    refine r_istore11 dX11_byHalves_107 ?_
    refine r_iload2 dX11_byHalves_109 ?_
    refine r_if_eqN (tgt := 127) dX11_byHalves_110 (by decide) (by omega) (fun c110 => ?_) (fun c110 => ?_)
    · refine r_iload11 dX11_byHalves_127 ?_
      refine r_if_eqB (tgt := 137) dX11_byHalves_129 (by decide) (fun c129 => ?_) (fun c129 => ?_)
      · refine r_lload9 dX11_byHalves_137 ?_
        exact r_lreturn dX11_byHalves_139 rfl (⟨by rw [if_pos c110, (nrF_is hb0 (e2 c129)).2], rfl, rfl⟩)
      · refine r_lload5 dX11_byHalves_132 ?_
        refine r_goto (tgt := 139) dX11_byHalves_134 (by decide) ?_
        exact r_lreturn dX11_byHalves_139 rfl (⟨by rw [if_pos c110, (nrF_is hb0 (e1 c129)).2], rfl, rfl⟩)
    · refine r_iload11 dX11_byHalves_113 ?_
      refine r_if_eqB (tgt := 122) dX11_byHalves_115 (by decide) (fun c115 => ?_) (fun c115 => ?_)
      · refine r_lload7 dX11_byHalves_122 ?_
        refine r_goto (tgt := 139) dX11_byHalves_124 (by decide) ?_
        exact r_lreturn dX11_byHalves_139 rfl (⟨by rw [if_neg c110, (nrF_is hb0 (e2 c115)).1], rfl, rfl⟩)
      · refine r_lload3 dX11_byHalves_118 ?_
        refine r_goto (tgt := 139) dX11_byHalves_119 (by decide) ?_
        exact r_lreturn dX11_byHalves_139 rfl (⟨by rw [if_neg c110, (nrF_is hb0 (e1 c115)).1], rfl, rfl⟩)
  have loop : ∀ (g lo p hi q : Nat) (o11 o12 o13 o14 : Option Value), l < p + q + g → hvI w b l lo p hi q → g_G K mX11_byHalves 3 0 0 (gJ fun r h' n' => r = lN (if f = 0 then (nrF w b l).2 else (nrF w b l).1) ∧ h' = h ∧ n' = n) gN 21 [some (.ref s), some (.int (nI l)), some (.int (nI f)), some (.long (lN lo)), none, some (.long (lN p)), none, some (.long (lN hi)), none, some (.long (lN q)), none, o11, o12, o13, o14] [] h n := by
    intro g
    induction g with
    | zero =>
      intro lo p hi q o11 o12 o13 o14 hg i
      obtain ⟨z1, z2, z3, z4⟩ := bnd i
      have q5 : dd w b lo p ≤ 3000000000 := by unfold dd; rw [Nat.mul_comm w]; omega
      have i0 := i
      obtain ⟨i1, i2, i3, i4, i5, i6, i7⟩ := i
      refine r_aload0 dX11_byHalves_21 ?_
      refine r_lload3 dX11_byHalves_22 ?_
      refine r_lload5 dX11_byHalves_23 ?_
      refine r_callV (M' := mX11_distance) _ dX11_byHalves_25 q1873 q1875 qs17 rfl (lw_all_tbl q1876) q181 (by exact pl_X11_distance) gc_X11 (by first | assumption | exact g_us | (rw [g_un (by omega)]; assumption) | (rw [g_un (by omega)]; exact g_us) | (rw [g_un (by omega), g_un (by omega)]; assumption) | (rw [g_un (by omega), g_un (by omega)]; exact g_us) | (rw [g_un (by omega), g_un (by omega), g_un (by omega)]; assumption) | ((repeat (rw [g_un (by omega)])); first | exact g_us | assumption)) ((k_dist ho (by omega) (by omega))) (by omega) (Nat.le_of_ble_eq_true rfl) (by omega) (by omega) rfl (Nat.le_of_ble_eq_true rfl) rfl (kJ fun r25 h25 n25 e25 => ?_) kN
      obtain ⟨q9, q8, q7⟩ := e25; have q9 := q9.symm; have q8 := q8.symm; have q7 := q7.symm; subst q9; subst q8; subst q7
      refine r_lconst (v := lN 0) dX11_byHalves_28 (by decide) ?_
      refine r_lcmp dX11_byHalves_29 rfl ?_
      refine r_if_le (tgt := 96) dX11_byHalves_30 (by decide) (fun c30 => ?_) (fun c30 => ?_)
      · exact tail _ _ _ _ _ _ _ _ i0 (Or.inl (by have := (lc_le (b := 0) (by omega) (by decide)).mp c30; omega))
      · refine r_lload5 dX11_byHalves_33 ?_
        refine r_lload9 dX11_byHalves_35 ?_
        refine r_ladd dX11_byHalves_37 (lN_add _ _) ?_
        refine r_iload1 dX11_byHalves_38 ?_
        refine r_i2l dX11_byHalves_39 (i2l_nI (by omega)) ?_
        refine r_lcmp dX11_byHalves_40 rfl ?_
        refine r_if_gt (tgt := 96) dX11_byHalves_41 (by decide) (fun c41 => ?_) (fun c41 => absurd (by rw [lc_gt (by omega) (by omega)]; omega) c41)
        exact tail _ _ _ _ _ _ _ _ i0 (Or.inr (by omega))
    | succ g ih =>
      intro lo p hi q o11 o12 o13 o14 hg i
      obtain ⟨z1, z2, z3, z4⟩ := bnd i
      have q5 : dd w b lo p ≤ 3000000000 := by unfold dd; rw [Nat.mul_comm w]; omega
      have q6 : (lo + hi) * b = lo * b + hi * b := Nat.add_mul ..
      have q7 : (p + q) * w = p * w + q * w := Nat.add_mul ..
      have i0 := i
      obtain ⟨i1, i2, i3, i4, i5, i6, i7⟩ := i
      refine r_aload0 dX11_byHalves_21 ?_
      refine r_lload3 dX11_byHalves_22 ?_
      refine r_lload5 dX11_byHalves_23 ?_
      refine r_callV (M' := mX11_distance) _ dX11_byHalves_25 q1873 q1875 qs17 rfl (lw_all_tbl q1876) q181 (by exact pl_X11_distance) gc_X11 (by first | assumption | exact g_us | (rw [g_un (by omega)]; assumption) | (rw [g_un (by omega)]; exact g_us) | (rw [g_un (by omega), g_un (by omega)]; assumption) | (rw [g_un (by omega), g_un (by omega)]; exact g_us) | (rw [g_un (by omega), g_un (by omega), g_un (by omega)]; assumption) | ((repeat (rw [g_un (by omega)])); first | exact g_us | assumption)) ((k_dist ho (by omega) (by omega))) (by omega) (Nat.le_of_ble_eq_true rfl) (by omega) (by omega) rfl (Nat.le_of_ble_eq_true rfl) rfl (kJ fun r25 h25 n25 e25 => ?_) kN
      obtain ⟨q9, q8, q7⟩ := e25; have q9 := q9.symm; have q8 := q8.symm; have q7 := q7.symm; subst q9; subst q8; subst q7
      refine r_lconst (v := lN 0) dX11_byHalves_28 (by decide) ?_
      refine r_lcmp dX11_byHalves_29 rfl ?_
      refine r_if_le (tgt := 96) dX11_byHalves_30 (by decide) (fun c30 => ?_) (fun c30 => ?_)
      · exact tail _ _ _ _ _ _ _ _ i0 (Or.inl (by have := (lc_le (b := 0) (by omega) (by decide)).mp c30; omega))
      · refine r_lload5 dX11_byHalves_33 ?_
        refine r_lload9 dX11_byHalves_35 ?_
        refine r_ladd dX11_byHalves_37 (lN_add _ _) ?_
        refine r_iload1 dX11_byHalves_38 ?_
        refine r_i2l dX11_byHalves_39 (i2l_nI (by omega)) ?_
        refine r_lcmp dX11_byHalves_40 rfl ?_
        refine r_if_gt (tgt := 96) dX11_byHalves_41 (by decide) (fun c41 => ?_) (fun c41 => ?_)
        · exact tail _ _ _ _ _ _ _ _ i0 (Or.inr (by have := (lc_gt (by omega) (by omega)).mp c41; omega))
        · refine r_lload3 dX11_byHalves_44 ?_
          refine r_lload7 dX11_byHalves_45 ?_
          refine r_ladd dX11_byHalves_47 (lN_add _ _) ?_
          refine r_lstore11 dX11_byHalves_48 ?_
          refine r_lload5 dX11_byHalves_50 ?_
          refine r_lload9 dX11_byHalves_52 ?_
          refine r_ladd dX11_byHalves_54 (lN_add _ _) ?_
          refine r_lstore13 dX11_byHalves_55 ?_
          refine r_lload11 dX11_byHalves_57 ?_
          refine r_aload0 dX11_byHalves_59 ?_
          refine f_X11_21_X11 dX11_byHalves_60 ho ?_
          refine r_lmul dX11_byHalves_63 (lN_mul _ _) ?_
          refine r_lload13 dX11_byHalves_64 ?_
          refine r_aload0 dX11_byHalves_66 ?_
          refine f_X11_16_X11 dX11_byHalves_67 ho ?_
          refine r_lmul dX11_byHalves_70 (lN_mul _ _) ?_
          refine r_lcmp dX11_byHalves_71 rfl ?_
          refine r_if_gt (tgt := 85) dX11_byHalves_72 (by decide) (fun c72 => ?_) (fun c72 => ?_)
          · refine r_lload11 dX11_byHalves_85 ?_
            refine r_lstore7 dX11_byHalves_87 ?_
            refine r_lload13 dX11_byHalves_89 ?_
            refine r_lstore9 dX11_byHalves_91 ?_
            refine r_goto (tgt := 21) dX11_byHalves_93 (by decide) ?_
            exact ih _ _ _ _ _ _ _ _ (by omega) (hvI_h i0 (by have := mt (lc_gt (by omega) (by omega)).mpr c41; omega) (by have := (lc_gt (by omega) (by omega)).mp c72; omega))
          · refine r_lload11 dX11_byHalves_75 ?_
            refine r_lstore3 dX11_byHalves_77 ?_
            refine r_lload13 dX11_byHalves_78 ?_
            refine r_lstore5 dX11_byHalves_80 ?_
            refine r_goto (tgt := 93) dX11_byHalves_82 (by decide) ?_
            refine r_goto (tgt := 21) dX11_byHalves_93 (by decide) ?_
            exact ih _ _ _ _ _ _ _ _ (by omega) (hvI_l i0 (by have := mt (lc_gt (by omega) (by omega)).mpr c41; omega) (by have := mt (lc_gt (by omega) (by omega)).mpr c72; omega))
  refine g_Met.of (M := mX11_byHalves) (L := [some (.ref s), some (.int (nI l)), some (.int (nI f)), none, none, none, none, none, none, none, none, none, none, none, none]) (by decide +kernel) (Nat.le_of_ble_eq_true rfl) rfl ?_
  refine r_aload0 dX11_byHalves_0 ?_
  refine f_X11_16_X11 dX11_byHalves_1 ho ?_
  refine r_aload0 dX11_byHalves_4 ?_
  refine f_X11_21_X11 dX11_byHalves_5 ho ?_
  refine r_ldiv dX11_byHalves_8 (fun z => by have := (lN_inj (b := 0) (by omega) (by decide)).mp z; omega) (lN_div (by omega) (by omega) hb0) ?_
  refine r_lstore3 dX11_byHalves_9 ?_
  refine r_lconst (v := lN 1) dX11_byHalves_10 (by decide) ?_
  refine r_lstore5 dX11_byHalves_11 ?_
  refine r_lload3 dX11_byHalves_13 ?_
  refine r_lconst (v := lN 1) dX11_byHalves_14 (by decide) ?_
  refine r_ladd dX11_byHalves_15 (lN_add _ _) ?_
  refine r_lstore7 dX11_byHalves_16 ?_
  refine r_lconst (v := lN 1) dX11_byHalves_18 (by decide) ?_
  refine r_lstore9 dX11_byHalves_19 ?_
  exact loop l _ _ _ _ _ _ _ _ (by omega) (hvI_0 hb0 hl)
theorem k_X11_init {x y x1 y1 x2 y2 : Nat} {v0 v1 : Value} (hb : k_b K ≤ s) (ho : h s = some (g_ob 9 [v0, v1])) (h1 : h x = some (g_ob 4 [.int (nI x1), .int (nI y1)])) (h2 : h y = some (g_ob 4 [.int (nI x2), .int (nI y2)])) (b1 : x1 ≤ 9999) (b2 : y1 ≤ 12) (b3 : x2 ≤ 9999) (b4 : y2 ≤ 12) : g_Met K mX11_init 2 0 0 [.ref s, .ref x, .ref y] h n (gV fun h' n' => h' = g_up h s (nrO (x1 * y2) (y1 * x2)) ∧ n' = n) gN := by
  have n1 : x ≠ s := fun e => by rw [e, ho] at h1; exact absurd (obj_inj h1) (by decide)
  have n2 : y ≠ s := fun e => by rw [e, ho] at h2; exact absurd (obj_inj h2) (by decide)
  refine g_Met.of (M := mX11_init) (L := [some (.ref s), some (.ref x), some (.ref y)]) (by decide +kernel) (Nat.le_of_ble_eq_true rfl) rfl ?_
  refine r_aload0 dX11_init_0 ?_
  refine r_objInit dX11_init_1 q1859 q200 q201 rfl (by omega) (Nat.le_of_ble_eq_true rfl) ?_
  refine r_aload0 dX11_init_4 ?_
  refine r_aload1 dX11_init_5 ?_
  refine f_X11_7_X6 dX11_init_6 h1 ?_
  refine r_i2l dX11_init_9 (i2l_nI (by omega)) ?_
  refine r_aload2 dX11_init_10 ?_
  refine f_X11_13_X6 dX11_init_11 h2 ?_
  refine r_i2l dX11_init_14 (i2l_nI (by omega)) ?_
  refine r_lmul dX11_init_15 (lN_mul _ _) ?_
  refine p_X11_16_X11 dX11_init_16 (by omega) ho ?_
  refine r_aload0 dX11_init_19 ?_
  refine r_aload1 dX11_init_20 ?_
  refine f_X11_13_X6 dX11_init_21 (by rw [g_un n1]; exact h1) ?_
  refine r_i2l dX11_init_24 (i2l_nI (by omega)) ?_
  refine r_aload2 dX11_init_25 ?_
  refine f_X11_7_X6 dX11_init_26 (by rw [g_un n2]; exact h2) ?_
  refine r_i2l dX11_init_29 (i2l_nI (by omega)) ?_
  refine r_lmul dX11_init_30 (lN_mul _ _) ?_
  refine p_X11_21_X11 dX11_init_31 (by omega) g_us ?_
  exact r_return dX11_init_34 rfl (⟨by rw [g_up_up], rfl⟩)
theorem k_nearness2 {lo hi t : Nat} {ρ : Nat → Nat} {α : Nat → Int64} {u : Nat} (w0 : cOK K W) (k : bk K W lo n s ρ α h) (w : wB u ρ) {i j : Nat} (ij : i < ρ 0) (jj : j < ρ 0) : g_Met K mX2_nearness 6 1 4 [.ref s, .int (nI i), .int (nI j)] h n (gA fun r h' n' => r = .ref n ∧ h' = g_up h n (nrO (ρ (10 + 2 * i) * ρ (11 + 2 * j)) (ρ (11 + 2 * i) * ρ (10 + 2 * j))) ∧ n' = n + 1) gN := by
  refine g_Met.facts fun f1 f2 f3 => ?_
  have wb := w.b
  have wd := w.d ij
  have we := w.d jj
  have k0 : bk K W lo n s ρ α (g_up h n (g_ob 9 [.long (lN 0), .long (lN 0)])) := k.keep fun q hq => by rw [g_un (by omega)]
  have f30 : ∀ a : Nat, a < k_b K → (g_up h n (g_ob 9 [.long (lN 0), .long (lN 0)])) a = k_p K a := fun a ha => by rw [g_un (by omega)]; exact f3 a ha
  obtain ⟨k1, k2, k3, t, lb, eb, ll, el, k4, k5, k6, k7, k8⟩ := k0
  obtain ⟨x, z1, z2, z3⟩ := k_getD (n := n + 1) w0 f30 k5 (by omega) ij
  obtain ⟨y, y1, y2, y3⟩ := k_getD (n := n + 1) w0 f30 k5 (by omega) jj
  have k50 := k5
  obtain ⟨x1, N, F, mc, nk, ⟨⟨tt, hm, -⟩, -⟩, x2⟩ := k50
  refine g_Met.of (M := mX2_nearness) (L := [some (.ref s), some (.int (nI i)), some (.int (nI j))]) (by decide +kernel) (Nat.le_of_ble_eq_true rfl) rfl ?_
  refine n_X2_216 dX2_nearness_0 (by omega) (by omega) ?_
  refine r_dup dX2_nearness_3 ?_
  refine r_aload0 dX2_nearness_4 ?_
  refine f_X2_12_X2 dX2_nearness_5 k4 ?_
  refine r_iload1 dX2_nearness_8 ?_
  refine r_callS (M' := mJ14_valueOf) _ dX2_nearness_9 q1777 q1778 rfl (lw_all_tbl q1779) q144 (by exact pl_J14_valueOf)  ((k_valueOf w0 (by omega))) (by omega) (Nat.le_of_ble_eq_true rfl) (by omega) (by omega) rfl (Nat.le_of_ble_eq_true rfl) rfl (kA fun r9 h9 n9 t9 e9 => ?_) kN
  obtain ⟨q9, q8, q7⟩ := e9; have q9 := q9.symm; have q8 := q8.symm; have q7 := q7.symm; subst q9; subst q8; subst q7
  refine r_callV (M' := mJ1_get) _ dX2_nearness_12 q1796 q1797 q1798 rfl (lw_all_tbl q1799) q128 (by exact pl_J1_get) gc_J1 hm (z3) (by omega) (Nat.le_of_ble_eq_true rfl) (by omega) (by omega) rfl (Nat.le_of_ble_eq_true rfl) rfl (kA fun r12 h12 n12 t12 e12 => ?_) kN
  obtain ⟨q9, q8, q7⟩ := e12; have q9 := q9.symm; have q8 := q8.symm; have q7 := q7.symm; subst q9; subst q8; subst q7
  refine r_checkcast dX2_nearness_15 gc_X6 q1816 (Or.inl rfl) z1 ?_
  refine r_aload0 dX2_nearness_18 ?_
  refine f_X2_12_X2 dX2_nearness_19 k4 ?_
  refine r_iload2 dX2_nearness_22 ?_
  refine r_callS (M' := mJ14_valueOf) _ dX2_nearness_23 q1777 q1778 rfl (lw_all_tbl q1779) q144 (by exact pl_J14_valueOf)  ((k_valueOf w0 (by omega))) (by omega) (Nat.le_of_ble_eq_true rfl) (by omega) (by omega) rfl (Nat.le_of_ble_eq_true rfl) rfl (kA fun r23 h23 n23 t23 e23 => ?_) kN
  obtain ⟨q9, q8, q7⟩ := e23; have q9 := q9.symm; have q8 := q8.symm; have q7 := q7.symm; subst q9; subst q8; subst q7
  refine r_callV (M' := mJ1_get) _ dX2_nearness_26 q1796 q1797 q1798 rfl (lw_all_tbl q1799) q128 (by exact pl_J1_get) gc_J1 hm (y3) (by omega) (Nat.le_of_ble_eq_true rfl) (by omega) (by omega) rfl (Nat.le_of_ble_eq_true rfl) rfl (kA fun r26 h26 n26 t26 e26 => ?_) kN
  obtain ⟨q9, q8, q7⟩ := e26; have q9 := q9.symm; have q8 := q8.symm; have q7 := q7.symm; subst q9; subst q8; subst q7
  refine r_checkcast dX2_nearness_29 gc_X6 q1816 (Or.inl rfl) y1 ?_
  refine r_callI (M' := mX11_init) _ dX2_nearness_32 q1856 q1857 rfl rfl rfl (lw_all_tbl q1858) q181 (by exact pl_X11_init)  ((k_X11_init f1 g_us z1 y1 wd.1 wd.2.2.1 we.1 we.2.2.1)) (by omega) (Nat.le_of_ble_eq_true rfl) (by omega) (by omega) rfl (Nat.le_of_ble_eq_true rfl) rfl (kV fun h32 n32 e32 => ?_) kN
  obtain ⟨rfl, rfl⟩ := e32
  exact r_areturn dX2_nearness_35 rfl (Or.inl ⟨_, rfl⟩) (Or.inr ⟨_, rfl⟩) (⟨rfl, by rw [g_up_up], rfl⟩)
end
