/-! the reference: nearest fractions, ovens, totals -/
set_option maxRecDepth 100000
/-- the best fraction so far lies in the fields -/
def nS (V : Nat → Nat → Int32) (w b : Nat) (s : Nat × Nat) : Prop := (s.2 = 0 ∧ V 0 9 = nI 0) ∨ (s.2 ≠ 0 ∧ s.2 ≤ 99 ∧ dd w b s.1 s.2 ≤ 119988 ∧ V 0 8 = nI s.1 ∧ V 0 9 = nI s.2 ∧ V 0 10 = nI (dd w b s.1 s.2))
theorem nrF_s {w b k : Nat} (hk : 1 ≤ k) : nrF w b k = nst w b (w * k / b + 1, k) (nst w b (w * k / b, k) (nrF w b (k - 1))) := by
  obtain ⟨k, rfl⟩ : ∃ k', k = k' + 1 := ⟨k - 1, by omega⟩
  rfl
section
variable {K : g_K} {a n u : Nat} {V : Nat → Nat → Int32} {R : Nat → Nat → Nat} {A : Nat → Nat → Int64} {h : g_P}
theorem k_tries {x y wa by_ : Nat} {s : Nat × Nat} (hb : k_b K ≤ a) (m : mS a V R A h) (hs : nS V wa by_ s) (hy : 1 ≤ y) (hy2 : y ≤ 99) (hd : dd wa by_ x y ≤ 119988) (h1 : wa * y < 500000000) (h2 : x * by_ < 500000000) : g_Met K mX3_tries 1 0 0 [.ref a, .int (nI x), .int (nI y), .int (nI wa), .int (nI by_)] h n (gV fun h' n' => (∃ V', mS a V' R A h' ∧ nS V' wa by_ (nst wa by_ (x, y) s) ∧ V' 0 0 = V 0 0 ∧ vE V V') ∧ mT a h h' ∧ n' = n) gN := by
  refine g_Met.of (M := mX3_tries) (L := [some (.ref a), some (.int (nI x)), some (.int (nI y)), some (.int (nI wa)), some (.int (nI by_)), none]) (by decide +kernel) (Nat.le_of_ble_eq_true rfl) rfl ?_
  have put : (s.2 = 0 ∨ dd wa by_ x y * s.2 < dd wa by_ s.1 s.2 * y) → g_G K mX3_tries 1 0 0 (gV fun h' n' => (∃ V', mS a V' R A h' ∧ nS V' wa by_ (nst wa by_ (x, y) s) ∧ V' 0 0 = V 0 0 ∧ vE V V') ∧ mT a h h' ∧ n' = n) gN 44 [some (.ref a), some (.int (nI x)), some (.int (nI y)), some (.int (nI wa)), some (.int (nI by_)), some (.int (nI (dd wa by_ x y)))] [] h n := by
    intro hc
    refine r_aload0 dX3_tries_44 ?_
    refine r_iload1 dX3_tries_45 ?_
    refine p_X3_213_X3 dX3_tries_46 (by omega) (by first | exact m.1 | exact m0.1 | exact m1.1 | exact m2.1 | exact m3.1 | assumption | exact g_us | (rw [g_un (by omega)]; assumption) | (rw [g_un (by omega)]; exact g_us) | (rw [g_un (by omega), g_un (by omega)]; assumption) | (rw [g_un (by omega), g_un (by omega)]; exact g_us) | (rw [g_un (by omega), g_un (by omega), g_un (by omega)]; assumption) | ((repeat (rw [g_un (by omega)])); first | exact m.1 | exact m0.1 | exact m1.1 | exact m2.1 | exact m3.1 | exact g_us | assumption)) ?_
    have m1 := m.oo (i := fup (V 0) 8 (nI x)) rfl
    refine r_aload0 dX3_tries_49 ?_
    refine r_iload2 dX3_tries_50 ?_
    refine p_X3_207_X3 dX3_tries_51 (by omega) (by first | exact m.1 | exact m0.1 | exact m1.1 | exact m2.1 | exact m3.1 | assumption | exact g_us | (rw [g_un (by omega)]; assumption) | (rw [g_un (by omega)]; exact g_us) | (rw [g_un (by omega), g_un (by omega)]; assumption) | (rw [g_un (by omega), g_un (by omega)]; exact g_us) | (rw [g_un (by omega), g_un (by omega), g_un (by omega)]; assumption) | ((repeat (rw [g_un (by omega)])); first | exact m.1 | exact m0.1 | exact m1.1 | exact m2.1 | exact m3.1 | exact g_us | assumption)) ?_
    have m2 := m1.oo (i := fup (fup (V 0) 8 (nI x)) 9 (nI y)) rfl
    refine r_aload0 dX3_tries_54 ?_
    refine r_iload5 dX3_tries_55 ?_
    refine p_X3_210_X3 dX3_tries_57 (by omega) (by first | exact m.1 | exact m0.1 | exact m1.1 | exact m2.1 | exact m3.1 | assumption | exact g_us | (rw [g_un (by omega)]; assumption) | (rw [g_un (by omega)]; exact g_us) | (rw [g_un (by omega), g_un (by omega)]; assumption) | (rw [g_un (by omega), g_un (by omega)]; exact g_us) | (rw [g_un (by omega), g_un (by omega), g_un (by omega)]; assumption) | ((repeat (rw [g_un (by omega)])); first | exact m.1 | exact m0.1 | exact m1.1 | exact m2.1 | exact m3.1 | exact g_us | assumption)) ?_
    have m3 := m2.oo (i := fup (fup (fup (V 0) 8 (nI x)) 9 (nI y)) 10 (nI (dd wa by_ x y))) rfl
    rw [up1_up1, up1_up1] at m3
    exact r_return dX3_tries_60 rfl (⟨⟨_, m3, by rw [nst_c hc]; exact Or.inr ⟨by show y ≠ 0; omega, hy2, hd, by rw [up1_s, fup_n (by decide), fup_n (by decide), fup_s], by rw [up1_s, fup_n (by decide), fup_s], by rw [up1_s, fup_s]⟩, by rw [up1_s, fup_n (by decide), fup_n (by decide), fup_n (by decide)], ⟨fun j hj => by simp only [List.mem_cons, List.not_mem_nil, or_false] at hj; rw [up1_s, fup_n (by omega), fup_n (by omega), fup_n (by omega)], up1_n (by decide), up1_n (by decide)⟩⟩, ((mT.up (k := 0) (by omega)).tr (mT.up (k := 0) (by omega))).tr (mT.up (k := 0) (by omega)), rfl⟩)
  have tail : g_G K mX3_tries 1 0 0 (gV fun h' n' => (∃ V', mS a V' R A h' ∧ nS V' wa by_ (nst wa by_ (x, y) s) ∧ V' 0 0 = V 0 0 ∧ vE V V') ∧ mT a h h' ∧ n' = n) gN 20 [some (.ref a), some (.int (nI x)), some (.int (nI y)), some (.int (nI wa)), some (.int (nI by_)), some (.int (nI (dd wa by_ x y)))] [] h n := by
    rcases hs with ⟨s1, s2⟩ | ⟨s1, s2, s3, s4, s5, s6⟩
    · skip
      refine r_aload0 dX3_tries_20 ?_
      refine f_X3_207_X3 dX3_tries_21 (by first | exact m.1 | exact m0.1 | exact m1.1 | exact m2.1 | exact m3.1 | assumption | exact g_us | (rw [g_un (by omega)]; assumption) | (rw [g_un (by omega)]; exact g_us) | (rw [g_un (by omega), g_un (by omega)]; assumption) | (rw [g_un (by omega), g_un (by omega)]; exact g_us) | (rw [g_un (by omega), g_un (by omega), g_un (by omega)]; assumption) | ((repeat (rw [g_un (by omega)])); first | exact m.1 | exact m0.1 | exact m1.1 | exact m2.1 | exact m3.1 | exact g_us | assumption)) ?_
      rw [s2]
      refine r_if_leN (tgt := 44) dX3_tries_24 (by decide) (by omega) (fun c24 => ?_) (fun c24 => absurd c24 (by omega))
      exact put (Or.inl s1)
    · have q1 : dd wa by_ x y * s.2 ≤ 119988 * 99 := Nat.mul_le_mul hd s2
      have q2 : dd wa by_ s.1 s.2 * y ≤ 119988 * 99 := Nat.mul_le_mul s3 hy2
      refine r_aload0 dX3_tries_20 ?_
      refine f_X3_207_X3 dX3_tries_21 (by first | exact m.1 | exact m0.1 | exact m1.1 | exact m2.1 | exact m3.1 | assumption | exact g_us | (rw [g_un (by omega)]; assumption) | (rw [g_un (by omega)]; exact g_us) | (rw [g_un (by omega), g_un (by omega)]; assumption) | (rw [g_un (by omega), g_un (by omega)]; exact g_us) | (rw [g_un (by omega), g_un (by omega), g_un (by omega)]; assumption) | ((repeat (rw [g_un (by omega)])); first | exact m.1 | exact m0.1 | exact m1.1 | exact m2.1 | exact m3.1 | exact g_us | assumption)) ?_
      rw [s5]
      refine r_if_leN (tgt := 44) dX3_tries_24 (by decide) (by omega) (fun c24 => absurd c24 (by omega)) (fun c24 => ?_)
      refine r_iload5 dX3_tries_27 ?_
      refine r_aload0 dX3_tries_29 ?_
      refine f_X3_207_X3 dX3_tries_30 (by first | exact m.1 | exact m0.1 | exact m1.1 | exact m2.1 | exact m3.1 | assumption | exact g_us | (rw [g_un (by omega)]; assumption) | (rw [g_un (by omega)]; exact g_us) | (rw [g_un (by omega), g_un (by omega)]; assumption) | (rw [g_un (by omega), g_un (by omega)]; exact g_us) | (rw [g_un (by omega), g_un (by omega), g_un (by omega)]; assumption) | ((repeat (rw [g_un (by omega)])); first | exact m.1 | exact m0.1 | exact m1.1 | exact m2.1 | exact m3.1 | exact g_us | assumption)) ?_
      refine r_imul dX3_tries_33 (show _ = nI (dd wa by_ x y * s.2) by rw [s5]; exact pk_mul _ _) ?_
      refine r_aload0 dX3_tries_34 ?_
      refine f_X3_210_X3 dX3_tries_35 (by first | exact m.1 | exact m0.1 | exact m1.1 | exact m2.1 | exact m3.1 | assumption | exact g_us | (rw [g_un (by omega)]; assumption) | (rw [g_un (by omega)]; exact g_us) | (rw [g_un (by omega), g_un (by omega)]; assumption) | (rw [g_un (by omega), g_un (by omega)]; exact g_us) | (rw [g_un (by omega), g_un (by omega), g_un (by omega)]; assumption) | ((repeat (rw [g_un (by omega)])); first | exact m.1 | exact m0.1 | exact m1.1 | exact m2.1 | exact m3.1 | exact g_us | assumption)) ?_
      refine r_iload2 dX3_tries_38 ?_
      refine r_imul dX3_tries_39 (show _ = nI (dd wa by_ s.1 s.2 * y) by rw [s6]; exact pk_mul _ _) ?_
      refine r_icmp_ltN (tgt := 44) dX3_tries_40 (by decide) (by omega) (by omega) (fun c40 => ?_) (fun c40 => ?_)
      · exact put (Or.inr c40)
      · exact r_return dX3_tries_43 rfl (⟨⟨V, m, by rw [nst_s (fun z => z.elim s1 c40)]; exact Or.inr ⟨s1, s2, s3, s4, s5, s6⟩, rfl, vE.rf⟩, mT.rf, rfl⟩)
  rcases Nat.lt_or_ge (wa * y) (x * by_) with q | q
  · have e : dd wa by_ x y = x * by_ - wa * y := by unfold dd; omega
    refine r_iload3 dX3_tries_0 ?_
    refine r_iload2 dX3_tries_1 ?_
    refine r_imul dX3_tries_2 (by first | exact pk_mul _ _ | rfl) ?_
    refine r_iload1 dX3_tries_3 ?_
    refine r_iload4 dX3_tries_4 ?_
    refine r_imul dX3_tries_6 (by first | exact pk_mul _ _ | rfl) ?_
    refine r_isub dX3_tries_7 rfl ?_
    refine r_istore5 dX3_tries_8 ?_
    refine r_iload5 dX3_tries_10 ?_
    refine r_if_ge (tgt := 20) dX3_tries_12 (by decide) (fun c12 => absurd c12 ((by have := pk_sneg (a := wa * y) (b := x * by_) (by omega) q; exact fun z => absurd this (Int32.not_lt.mpr z)))) (fun c12 => ?_)
    refine r_iload5 dX3_tries_15 ?_
    refine r_ineg dX3_tries_17 (show _ = nI (dd wa by_ x y) by rw [e]; exact i_negsub (by omega)) ?_
    refine r_istore5 dX3_tries_18 ?_
    exact tail
  · have e : dd wa by_ x y = wa * y - x * by_ := by unfold dd; omega
    refine r_iload3 dX3_tries_0 ?_
    refine r_iload2 dX3_tries_1 ?_
    refine r_imul dX3_tries_2 (by first | exact pk_mul _ _ | rfl) ?_
    refine r_iload1 dX3_tries_3 ?_
    refine r_iload4 dX3_tries_4 ?_
    refine r_imul dX3_tries_6 (by first | exact pk_mul _ _ | rfl) ?_
    refine r_isub dX3_tries_7 (show _ = nI (dd wa by_ x y) by rw [e]; exact pk_sub q) ?_
    refine r_istore5 dX3_tries_8 ?_
    refine r_iload5 dX3_tries_10 ?_
    refine r_if_geN (tgt := 20) dX3_tries_12 (by decide) (by omega) (fun c12 => ?_) (fun c12 => absurd c12 (by omega))
    exact tail
theorem k_finds {i j l wa be : Nat} (hb : k_b K ≤ a) (m : mS a V R A h) (w : wB u (R 1)) (hi : i < R 1 0) (hj : j < R 1 0) (hl : l ≤ 99) (hw : wa = R 1 (10 + 2 * i) * R 1 (11 + 2 * j)) (hbe : be = R 1 (11 + 2 * i) * R 1 (10 + 2 * j)) (h0 : 0 < be) : g_Met K mX3_finds 3 0 0 [.ref a, .int (nI i), .int (nI j), .int (nI l)] h n (gV fun h' n' => (∃ V', mS a V' R A h' ∧ nS V' wa be (nrF wa be l) ∧ V' 0 0 = V 0 0 ∧ vE V V') ∧ mT a h h' ∧ n' = n) gN := by
  have b := w.b
  have d1 := w.d hi
  have d2 := w.d hj
  have w1 : wa ≤ 9999 * 12 := by rw [hw]; exact Nat.mul_le_mul d1.1 d2.2.2.1
  have w2 : be ≤ 12 * 9999 := by rw [hbe]; exact Nat.mul_le_mul d1.2.2.1 d2.1
  have x1 : 11 + 2 * i = 10 + 2 * i + 1 := by omega
  have x2 : 11 + 2 * j = 10 + 2 * j + 1 := by omega
  refine g_Met.of (M := mX3_finds) (L := [some (.ref a), some (.int (nI i)), some (.int (nI j)), some (.int (nI l)), none, none, none]) (by decide +kernel) (Nat.le_of_ble_eq_true rfl) rfl ?_
  have loop : ∀ (g k : Nat) (V1 : Nat → Nat → Int32) (h1 : g_P), k + g = l + 1 → 1 ≤ k → mS a V1 R A h1 → nS V1 wa be (nrF wa be (k - 1)) → V1 0 0 = V 0 0 → vE V V1 → mT a h h1 → g_G K mX3_finds 3 0 0 (gV fun h' n' => (∃ V', mS a V' R A h' ∧ nS V' wa be (nrF wa be l) ∧ V' 0 0 = V 0 0 ∧ vE V V') ∧ mT a h h' ∧ n' = n) gN 38 [some (.ref a), some (.int (nI i)), some (.int (nI j)), some (.int (nI l)), some (.int (nI wa)), some (.int (nI be)), some (.int (nI k))] [] h1 n := by
    intro g
    induction g with
    | zero =>
      intro k V1 h1 hk hk1 m1 s1 z1 v1 t1
      have hk : k = l + 1 := by omega
      subst hk
      refine r_iload6 dX3_finds_38 ?_
      refine r_iload3 dX3_finds_40 ?_
      refine r_icmp_gtN (tgt := 88) dX3_finds_41 (by decide) (by omega) (by omega) (fun c41 => ?_) (fun c41 => absurd c41 (by omega))
      exact r_return dX3_finds_88 rfl (⟨⟨V1, m1, s1, z1, v1⟩, t1, rfl⟩)
    | succ g ih =>
      intro k V1 h1 hk hk1 m1 s1 z1 v1 t1
      have q1 : wa * k ≤ 119988 * 99 := Nat.mul_le_mul w1 (by omega)
      have q3 : wa * k / be * be ≤ wa * k := Nat.div_mul_le_self _ _
      have q4 : (wa * k / be + 1) * be = wa * k / be * be + be := by rw [Nat.add_mul, Nat.one_mul]
      have q5 : wa * k / be ≤ wa * k := Nat.div_le_self _ _
      refine r_iload6 dX3_finds_38 ?_
      refine r_iload3 dX3_finds_40 ?_
      refine r_icmp_gtN (tgt := 88) dX3_finds_41 (by decide) (by omega) (by omega) (fun c41 => absurd c41 (by omega)) (fun c41 => ?_)
      refine r_aload0 dX3_finds_44 ?_
      refine r_iload4 dX3_finds_45 ?_
      refine r_iload6 dX3_finds_47 ?_
      refine r_imul dX3_finds_49 (by first | exact pk_mul _ _ | rfl) ?_
      refine r_iload5 dX3_finds_50 ?_
      refine r_idiv dX3_finds_52 (nI_ne0 (by omega) (by omega)) (by first | exact pk_div (by omega) (by omega) (by omega) | rfl) ?_
      refine r_iload6 dX3_finds_53 ?_
      refine r_iload4 dX3_finds_55 ?_
      refine r_iload5 dX3_finds_57 ?_
      refine r_callV (M' := mX3_tries) _ dX3_finds_59 q3736 q3738 qs99 rfl (lw_all_tbl q3739) q138 (by exact pl_X3_tries) gc_X3 (by first | exact m.1 | exact m0.1 | exact m1.1 | exact m2.1 | exact m3.1 | assumption | exact g_us | (rw [g_un (by omega)]; assumption) | (rw [g_un (by omega)]; exact g_us) | (rw [g_un (by omega), g_un (by omega)]; assumption) | (rw [g_un (by omega), g_un (by omega)]; exact g_us) | (rw [g_un (by omega), g_un (by omega), g_un (by omega)]; assumption) | ((repeat (rw [g_un (by omega)])); first | exact m.1 | exact m0.1 | exact m1.1 | exact m2.1 | exact m3.1 | exact g_us | assumption)) ((k_tries (s := nrF wa be (k - 1)) hb m1 s1 hk1 (by omega) (Nat.le_trans (dd_f h0) (by omega)) (by omega) (by omega))) (by omega) (Nat.le_of_ble_eq_true rfl) (by omega) (by omega) rfl (Nat.le_of_ble_eq_true rfl) rfl (kV fun h59 n59 e59 => ?_) kN
      obtain ⟨⟨V2, m2, s2, z2, v2⟩, t2, rfl⟩ := e59
      refine r_aload0 dX3_finds_62 ?_
      refine r_iload4 dX3_finds_63 ?_
      refine r_iload6 dX3_finds_65 ?_
      refine r_imul dX3_finds_67 (by first | exact pk_mul _ _ | rfl) ?_
      refine r_iload5 dX3_finds_68 ?_
      refine r_idiv dX3_finds_70 (nI_ne0 (by omega) (by omega)) (by first | exact pk_div (by omega) (by omega) (by omega) | rfl) ?_
      refine r_iconst (v := nI 1) dX3_finds_71 (by decide) ?_
      refine r_iadd dX3_finds_72 (by first | exact nI_add _ _ | rfl) ?_
      refine r_iload6 dX3_finds_73 ?_
      refine r_iload4 dX3_finds_75 ?_
      refine r_iload5 dX3_finds_77 ?_
      refine r_callV (M' := mX3_tries) _ dX3_finds_79 q3736 q3738 qs99 rfl (lw_all_tbl q3739) q138 (by exact pl_X3_tries) gc_X3 (by first | exact m.1 | exact m0.1 | exact m1.1 | exact m2.1 | exact m3.1 | assumption | exact g_us | (rw [g_un (by omega)]; assumption) | (rw [g_un (by omega)]; exact g_us) | (rw [g_un (by omega), g_un (by omega)]; assumption) | (rw [g_un (by omega), g_un (by omega)]; exact g_us) | (rw [g_un (by omega), g_un (by omega), g_un (by omega)]; assumption) | ((repeat (rw [g_un (by omega)])); first | exact m.1 | exact m0.1 | exact m1.1 | exact m2.1 | exact m3.1 | exact g_us | assumption)) ((k_tries (s := nst wa be (wa * k / be, k) (nrF wa be (k - 1))) hb m2 s2 hk1 (by omega) (Nat.le_trans (dd_g h0) (by omega)) (by omega) (by omega))) (by omega) (Nat.le_of_ble_eq_true rfl) (by omega) (by omega) rfl (Nat.le_of_ble_eq_true rfl) rfl (kV fun h79 n79 e79 => ?_) kN
      obtain ⟨⟨V3, m3, s3, z3, v3⟩, t3, rfl⟩ := e79
      refine r_iinc6 dX3_finds_82 (ii1 _) ?_
      refine r_goto (tgt := 38) dX3_finds_85 (by decide) ?_
      exact ih (k + 1) V3 _ (by omega) (by omega) m3 (by rw [show k + 1 - 1 = k from rfl, nrF_s hk1]; exact s3) (z3.trans (z2.trans z1)) ((v1.tr v2).tr v3) ((t1.tr t2).tr t3)
  refine r_aload0 dX3_finds_0 ?_
  refine r_iload1 dX3_finds_1 ?_
  refine r_iconst (v := nI 0) dX3_finds_2 (by decide) ?_
  refine r_callV (M' := mX3_dough) _ dX3_finds_3 q3532 q3534 qs66 rfl (lw_all_tbl q3535) q138 (by exact pl_X3_dough) gc_X3 (by first | exact m.1 | exact m0.1 | exact m1.1 | exact m2.1 | exact m3.1 | assumption | exact g_us | (rw [g_un (by omega)]; assumption) | (rw [g_un (by omega)]; exact g_us) | (rw [g_un (by omega), g_un (by omega)]; assumption) | (rw [g_un (by omega), g_un (by omega)]; exact g_us) | (rw [g_un (by omega), g_un (by omega), g_un (by omega)]; assumption) | ((repeat (rw [g_un (by omega)])); first | exact m.1 | exact m0.1 | exact m1.1 | exact m2.1 | exact m3.1 | exact g_us | assumption)) ((k_dough m (by omega) (by decide))) (by omega) (Nat.le_of_ble_eq_true rfl) (by omega) (by omega) rfl (Nat.le_of_ble_eq_true rfl) rfl (kI fun r3 h3 n3 e3 => ?_) kN
  obtain ⟨rfl, rfl, rfl⟩ := e3
  refine r_aload0 dX3_finds_6 ?_
  refine r_iload2 dX3_finds_7 ?_
  refine r_iconst (v := nI 1) dX3_finds_8 (by decide) ?_
  refine r_callV (M' := mX3_dough) _ dX3_finds_9 q3532 q3534 qs66 rfl (lw_all_tbl q3535) q138 (by exact pl_X3_dough) gc_X3 (by first | exact m.1 | exact m0.1 | exact m1.1 | exact m2.1 | exact m3.1 | assumption | exact g_us | (rw [g_un (by omega)]; assumption) | (rw [g_un (by omega)]; exact g_us) | (rw [g_un (by omega), g_un (by omega)]; assumption) | (rw [g_un (by omega), g_un (by omega)]; exact g_us) | (rw [g_un (by omega), g_un (by omega), g_un (by omega)]; assumption) | ((repeat (rw [g_un (by omega)])); first | exact m.1 | exact m0.1 | exact m1.1 | exact m2.1 | exact m3.1 | exact g_us | assumption)) ((k_dough m (by omega) (by decide))) (by omega) (Nat.le_of_ble_eq_true rfl) (by omega) (by omega) rfl (Nat.le_of_ble_eq_true rfl) rfl (kI fun r9 h9 n9 e9 => ?_) kN
  obtain ⟨rfl, rfl, rfl⟩ := e9
  refine r_imul dX3_finds_12 (show _ = nI wa by rw [hw, x2]; exact pk_mul _ _) ?_
  refine r_istore4 dX3_finds_13 ?_
  refine r_aload0 dX3_finds_15 ?_
  refine r_iload1 dX3_finds_16 ?_
  refine r_iconst (v := nI 1) dX3_finds_17 (by decide) ?_
  refine r_callV (M' := mX3_dough) _ dX3_finds_18 q3532 q3534 qs66 rfl (lw_all_tbl q3535) q138 (by exact pl_X3_dough) gc_X3 (by first | exact m.1 | exact m0.1 | exact m1.1 | exact m2.1 | exact m3.1 | assumption | exact g_us | (rw [g_un (by omega)]; assumption) | (rw [g_un (by omega)]; exact g_us) | (rw [g_un (by omega), g_un (by omega)]; assumption) | (rw [g_un (by omega), g_un (by omega)]; exact g_us) | (rw [g_un (by omega), g_un (by omega), g_un (by omega)]; assumption) | ((repeat (rw [g_un (by omega)])); first | exact m.1 | exact m0.1 | exact m1.1 | exact m2.1 | exact m3.1 | exact g_us | assumption)) ((k_dough m (by omega) (by decide))) (by omega) (Nat.le_of_ble_eq_true rfl) (by omega) (by omega) rfl (Nat.le_of_ble_eq_true rfl) rfl (kI fun r18 h18 n18 e18 => ?_) kN
  obtain ⟨rfl, rfl, rfl⟩ := e18
  refine r_aload0 dX3_finds_21 ?_
  refine r_iload2 dX3_finds_22 ?_
  refine r_iconst (v := nI 0) dX3_finds_23 (by decide) ?_
  refine r_callV (M' := mX3_dough) _ dX3_finds_24 q3532 q3534 qs66 rfl (lw_all_tbl q3535) q138 (by exact pl_X3_dough) gc_X3 (by first | exact m.1 | exact m0.1 | exact m1.1 | exact m2.1 | exact m3.1 | assumption | exact g_us | (rw [g_un (by omega)]; assumption) | (rw [g_un (by omega)]; exact g_us) | (rw [g_un (by omega), g_un (by omega)]; assumption) | (rw [g_un (by omega), g_un (by omega)]; exact g_us) | (rw [g_un (by omega), g_un (by omega), g_un (by omega)]; assumption) | ((repeat (rw [g_un (by omega)])); first | exact m.1 | exact m0.1 | exact m1.1 | exact m2.1 | exact m3.1 | exact g_us | assumption)) ((k_dough m (by omega) (by decide))) (by omega) (Nat.le_of_ble_eq_true rfl) (by omega) (by omega) rfl (Nat.le_of_ble_eq_true rfl) rfl (kI fun r24 h24 n24 e24 => ?_) kN
  obtain ⟨rfl, rfl, rfl⟩ := e24
  refine r_imul dX3_finds_27 (show _ = nI be by rw [hbe, x1]; exact pk_mul _ _) ?_
  refine r_istore5 dX3_finds_28 ?_
  refine r_aload0 dX3_finds_30 ?_
  refine r_iconst (v := nI 0) dX3_finds_31 (by decide) ?_
  refine p_X3_207_X3 dX3_finds_32 (by omega) (by first | exact m.1 | exact m0.1 | exact m1.1 | exact m2.1 | exact m3.1 | assumption | exact g_us | (rw [g_un (by omega)]; assumption) | (rw [g_un (by omega)]; exact g_us) | (rw [g_un (by omega), g_un (by omega)]; assumption) | (rw [g_un (by omega), g_un (by omega)]; exact g_us) | (rw [g_un (by omega), g_un (by omega), g_un (by omega)]; assumption) | ((repeat (rw [g_un (by omega)])); first | exact m.1 | exact m0.1 | exact m1.1 | exact m2.1 | exact m3.1 | exact g_us | assumption)) ?_
  have m1 := m.oo (i := fup (V 0) 9 (nI 0)) rfl
  refine r_iconst (v := nI 1) dX3_finds_35 (by decide) ?_
  refine r_istore6 dX3_finds_36 ?_
  exact loop l 1 _ _ (by omega) (by omega) m1 (Or.inl ⟨rfl, by rw [up1_s, fup_s]⟩) (by rw [up1_s, fup_n (by decide)]) (vE.put (by decide)) (mT.up (k := 0) (by decide))
theorem k_notNearest {p q l : Int32} (m : mS a V R A h) (w : wB u (R 1)) : g_Met K mX3_notNearest 3 0 0 [.ref a, .int p, .int q, .int l] h n (gI fun r h' n' => r = nI (eNe (R 1) p q l) ∧ h' = h ∧ n' = n) gN := by
  have b := w.b
  refine g_Met.of (M := mX3_notNearest) (L := [some (.ref a), some (.int p), some (.int q), some (.int l)]) (by decide +kernel) (Nat.le_of_ble_eq_true rfl) rfl ?_
  refine r_aload0 dX3_notNearest_0 ?_
  refine r_iload1 dX3_notNearest_1 ?_
  refine r_callV (M' := mX3_isDough) _ dX3_notNearest_2 q3524 q3526 qs64 rfl (lw_all_tbl q3527) q138 (by exact pl_X3_isDough) gc_X3 (by first | exact m.1 | exact m0.1 | exact m1.1 | exact m2.1 | exact m3.1 | assumption | exact g_us | (rw [g_un (by omega)]; assumption) | (rw [g_un (by omega)]; exact g_us) | (rw [g_un (by omega), g_un (by omega)]; assumption) | (rw [g_un (by omega), g_un (by omega)]; exact g_us) | (rw [g_un (by omega), g_un (by omega), g_un (by omega)]; assumption) | ((repeat (rw [g_un (by omega)])); first | exact m.1 | exact m0.1 | exact m1.1 | exact m2.1 | exact m3.1 | exact g_us | assumption)) ((k_isDough m w)) (by omega) (Nat.le_of_ble_eq_true rfl) (by omega) (by omega) rfl (Nat.le_of_ble_eq_true rfl) rfl (kI fun r2 h2 n2 e2 => ?_) kN
  obtain ⟨rfl, rfl, rfl⟩ := e2
  refine r_if_eqB (tgt := 16) dX3_notNearest_5 (by decide) (fun c5 => ?_) (fun c5 => ?_)
  · refine r_iconst (v := nI 1) dX3_notNearest_16 (by decide) ?_
    exact r_ireturn dX3_notNearest_17 rfl rfl (⟨by unfold eNe; rw [if_pos (fun z => c5 z.1)], rfl, rfl⟩)
  · refine r_aload0 dX3_notNearest_8 ?_
    refine r_iload2 dX3_notNearest_9 ?_
    refine r_callV (M' := mX3_isDough) _ dX3_notNearest_10 q3524 q3526 qs64 rfl (lw_all_tbl q3527) q138 (by exact pl_X3_isDough) gc_X3 (by first | exact m.1 | exact m0.1 | exact m1.1 | exact m2.1 | exact m3.1 | assumption | exact g_us | (rw [g_un (by omega)]; assumption) | (rw [g_un (by omega)]; exact g_us) | (rw [g_un (by omega), g_un (by omega)]; assumption) | (rw [g_un (by omega), g_un (by omega)]; exact g_us) | (rw [g_un (by omega), g_un (by omega), g_un (by omega)]; assumption) | ((repeat (rw [g_un (by omega)])); first | exact m.1 | exact m0.1 | exact m1.1 | exact m2.1 | exact m3.1 | exact g_us | assumption)) ((k_isDough m w)) (by omega) (Nat.le_of_ble_eq_true rfl) (by omega) (by omega) rfl (Nat.le_of_ble_eq_true rfl) rfl (kI fun r10 h10 n10 e10 => ?_) kN
    obtain ⟨rfl, rfl, rfl⟩ := e10
    refine r_if_neB (tgt := 18) dX3_notNearest_13 (by decide) (fun c13 => ?_) (fun c13 => ?_)
    · refine r_iload3 dX3_notNearest_18 ?_
      refine r_iconst (v := nI 1) dX3_notNearest_19 (by decide) ?_
      refine r_bipush (v := nI 99) dX3_notNearest_20 (by decide) ?_
      refine r_callS (M' := mX3_isBetween) _ dX3_notNearest_22 q3482 q3483 rfl (lw_all_tbl q3484) q138 (by exact pl_X3_isBetween)  ((k_bt (by decide) (by decide))) (by omega) (Nat.le_of_ble_eq_true rfl) (by omega) (by omega) rfl (Nat.le_of_ble_eq_true rfl) rfl (kI fun r22 h22 n22 e22 => ?_) kN
      obtain ⟨rfl, rfl, rfl⟩ := e22
      refine r_if_neB (tgt := 30) dX3_notNearest_25 (by decide) (fun c25 => ?_) (fun c25 => ?_)
      · obtain ⟨j, hj, rfl, tj⟩ := ix_ex c13
        have d2 := w.d hj
        refine r_aload0 dX3_notNearest_30 ?_
        refine r_iload2 dX3_notNearest_31 ?_
        refine r_iconst (v := nI 0) dX3_notNearest_32 (by decide) ?_
        refine r_callV (M' := mX3_dough) _ dX3_notNearest_33 q3532 q3534 qs66 rfl (lw_all_tbl q3535) q138 (by exact pl_X3_dough) gc_X3 (by first | exact m.1 | exact m0.1 | exact m1.1 | exact m2.1 | exact m3.1 | assumption | exact g_us | (rw [g_un (by omega)]; assumption) | (rw [g_un (by omega)]; exact g_us) | (rw [g_un (by omega), g_un (by omega)]; assumption) | (rw [g_un (by omega), g_un (by omega)]; exact g_us) | (rw [g_un (by omega), g_un (by omega), g_un (by omega)]; assumption) | ((repeat (rw [g_un (by omega)])); first | exact m.1 | exact m0.1 | exact m1.1 | exact m2.1 | exact m3.1 | exact g_us | assumption)) ((k_dough m (by omega) (by decide))) (by omega) (Nat.le_of_ble_eq_true rfl) (by omega) (by omega) rfl (Nat.le_of_ble_eq_true rfl) rfl (kI fun r33 h33 n33 e33 => ?_) kN
        obtain ⟨rfl, rfl, rfl⟩ := e33
        rw [show 10 + 2 * j + 0 = 10 + 2 * j from rfl]
        refine r_if_neN (tgt := 43) dX3_notNearest_36 (by decide) (by omega) (fun c36 => ?_) (fun c36 => ?_)
        · refine r_iconst (v := nI 0) dX3_notNearest_43 (by decide) ?_
          exact r_ireturn dX3_notNearest_44 rfl rfl (⟨by unfold eNe; rw [if_neg (fun z => z ⟨c5, c13⟩), if_neg (fun z => z c25), tj, if_neg c36], rfl, rfl⟩)
        · refine r_iconst (v := nI 3) dX3_notNearest_39 (by decide) ?_
          refine r_goto (tgt := 44) dX3_notNearest_40 (by decide) ?_
          exact r_ireturn dX3_notNearest_44 rfl rfl (⟨by unfold eNe; rw [if_neg (fun z => z ⟨c5, c13⟩), if_neg (fun z => z c25), tj, if_pos c36], rfl, rfl⟩)
      · refine r_iconst (v := nI 2) dX3_notNearest_28 (by decide) ?_
        exact r_ireturn dX3_notNearest_29 rfl rfl (⟨by unfold eNe; rw [if_neg (fun z => z ⟨c5, c13⟩), if_pos c25], rfl, rfl⟩)
    · refine r_iconst (v := nI 1) dX3_notNearest_16 (by decide) ?_
      exact r_ireturn dX3_notNearest_17 rfl rfl (⟨by unfold eNe; rw [if_pos (fun z => c13 z.2)], rfl, rfl⟩)
theorem eNe_b {ρ : Nat → Nat} {p q l : Int32} : eNe ρ p q l ≤ 3 := by unfold eNe; split <;> (try split) <;> (try split) <;> omega
theorem eNe_0 {ρ : Nat → Nat} {p q l : Int32} (h : eNe ρ p q l = 0) : ix p (ρ 0) ∧ ix q (ρ 0) ∧ bt l 1 99 ∧ ρ (10 + 2 * tN q) ≠ 0 := by
  unfold eNe at h
  split at h
  · omega
  · rename_i h1
    split at h
    · omega
    · rename_i h2
      split at h
      · omega
      · rename_i h3
        exact ⟨(Decidable.not_not.mp h1).1, (Decidable.not_not.mp h1).2, Decidable.not_not.mp h2, h3⟩
/-- the fraction that is asked for -/
def nrA (ρ : Nat → Nat) (p q l : Int32) : Nat × Nat := nrF (ρ (10 + 2 * tN p) * ρ (11 + 2 * tN q)) (ρ (11 + 2 * tN p) * ρ (10 + 2 * tN q)) (tN l)
theorem nst_2 {w b : Nat} {c s : Nat × Nat} (h : c.2 ≠ 0) : (nst w b c s).2 ≠ 0 := by
  unfold nst
  by_cases q : s.2 = 0 ∨ dd w b c.1 c.2 * s.2 < dd w b s.1 s.2 * c.2
  · rw [if_pos q]; exact h
  · rw [if_neg q]; exact fun z => q (Or.inl z)
theorem nrF_2 {w b d : Nat} (h : 1 ≤ d) : (nrF w b d).2 ≠ 0 := by
  obtain ⟨d, rfl⟩ : ∃ d', d = d' + 1 := ⟨d - 1, by omega⟩
  exact nst_2 (by show d + 1 ≠ 0; omega)
theorem k_nearestNumerator {p q l : Int32} (hb : k_b K ≤ a) (m : mS a V R A h) (w : wB u (R 1)) : g_Met K mX3_nearestNumerator 4 0 0 [.ref a, .int p, .int q, .int l] h n (gI fun r h' n' => mQ a V R A (eNe (R 1) p q l) (nrA (R 1) p q l).1 r h' ∧ mT a h h' ∧ n' = n) gN := by
  have b := w.b
  have z := eNe_b (ρ := R 1) (p := p) (q := q) (l := l)
  refine g_Met.of (M := mX3_nearestNumerator) (L := [some (.ref a), some (.int p), some (.int q), some (.int l), none]) (by decide +kernel) (Nat.le_of_ble_eq_true rfl) rfl ?_
  refine r_aload0 dX3_nearestNumerator_0 ?_
  refine r_iconst (v := nI 0) dX3_nearestNumerator_1 (by decide) ?_
  refine p_X3_1_X3 dX3_nearestNumerator_2 (by omega) (by first | exact m.1 | exact m0.1 | exact m1.1 | exact m2.1 | exact m3.1 | assumption | exact g_us | (rw [g_un (by omega)]; assumption) | (rw [g_un (by omega)]; exact g_us) | (rw [g_un (by omega), g_un (by omega)]; assumption) | (rw [g_un (by omega), g_un (by omega)]; exact g_us) | (rw [g_un (by omega), g_un (by omega), g_un (by omega)]; assumption) | ((repeat (rw [g_un (by omega)])); first | exact m.1 | exact m0.1 | exact m1.1 | exact m2.1 | exact m3.1 | exact g_us | assumption)) ?_
  refine m.goZ (fun h0 m0 t0 => ?_)
  refine r_aload0 dX3_nearestNumerator_5 ?_
  refine r_iload1 dX3_nearestNumerator_6 ?_
  refine r_iload2 dX3_nearestNumerator_7 ?_
  refine r_iload3 dX3_nearestNumerator_8 ?_
  refine r_callV (M' := mX3_notNearest) _ dX3_nearestNumerator_9 q3728 q3730 qs97 rfl (lw_all_tbl q3731) q138 (by exact pl_X3_notNearest) gc_X3 (by first | exact m.1 | exact m0.1 | exact m1.1 | exact m2.1 | exact m3.1 | assumption | exact g_us | (rw [g_un (by omega)]; assumption) | (rw [g_un (by omega)]; exact g_us) | (rw [g_un (by omega), g_un (by omega)]; assumption) | (rw [g_un (by omega), g_un (by omega)]; exact g_us) | (rw [g_un (by omega), g_un (by omega), g_un (by omega)]; assumption) | ((repeat (rw [g_un (by omega)])); first | exact m.1 | exact m0.1 | exact m1.1 | exact m2.1 | exact m3.1 | exact g_us | assumption)) ((k_notNearest m0 w)) (by omega) (Nat.le_of_ble_eq_true rfl) (by omega) (by omega) rfl (Nat.le_of_ble_eq_true rfl) rfl (kI fun r9 h9 n9 e9 => ?_) kN
  obtain ⟨rfl, rfl, rfl⟩ := e9
  refine r_istore4 dX3_nearestNumerator_12 ?_
  refine r_iload4 dX3_nearestNumerator_14 ?_
  refine r_if_eqN (tgt := 26) dX3_nearestNumerator_16 (by decide) (by omega) (fun c16 => ?_) (fun c16 => ?_)
  · obtain ⟨z1, z2, z3, z4⟩ := eNe_0 c16
    obtain ⟨i, hi, rfl, ti⟩ := ix_ex z1
    obtain ⟨j, hj, rfl, tj⟩ := ix_ex z2
    obtain ⟨k, k1, k2, rfl, tk⟩ := bt_ex z3
    rw [tj] at z4
    refine r_aload0 dX3_nearestNumerator_26 ?_
    refine r_iload1 dX3_nearestNumerator_27 ?_
    refine r_iload2 dX3_nearestNumerator_28 ?_
    refine r_iload3 dX3_nearestNumerator_29 ?_
    refine r_callV (M' := mX3_finds) _ dX3_nearestNumerator_30 q3732 q3734 qs98 rfl (lw_all_tbl q3735) q138 (by exact pl_X3_finds) gc_X3 (by first | exact m.1 | exact m0.1 | exact m1.1 | exact m2.1 | exact m3.1 | assumption | exact g_us | (rw [g_un (by omega)]; assumption) | (rw [g_un (by omega)]; exact g_us) | (rw [g_un (by omega), g_un (by omega)]; assumption) | (rw [g_un (by omega), g_un (by omega)]; exact g_us) | (rw [g_un (by omega), g_un (by omega), g_un (by omega)]; assumption) | ((repeat (rw [g_un (by omega)])); first | exact m.1 | exact m0.1 | exact m1.1 | exact m2.1 | exact m3.1 | exact g_us | assumption)) ((k_finds hb m0 w hi hj k2 rfl rfl (Nat.mul_pos (w.d hi).2.1 (Nat.pos_of_ne_zero z4)))) (by omega) (Nat.le_of_ble_eq_true rfl) (by omega) (by omega) rfl (Nat.le_of_ble_eq_true rfl) rfl (kV fun h30 n30 e30 => ?_) kN
    obtain ⟨⟨V1, m1, s1, z1', v1⟩, t1, rfl⟩ := e30
    refine r_aload0 dX3_nearestNumerator_33 ?_
    refine f_X3_213_X3 dX3_nearestNumerator_34 (by first | exact m.1 | exact m0.1 | exact m1.1 | exact m2.1 | exact m3.1 | assumption | exact g_us | (rw [g_un (by omega)]; assumption) | (rw [g_un (by omega)]; exact g_us) | (rw [g_un (by omega), g_un (by omega)]; assumption) | (rw [g_un (by omega), g_un (by omega)]; exact g_us) | (rw [g_un (by omega), g_un (by omega), g_un (by omega)]; assumption) | ((repeat (rw [g_un (by omega)])); first | exact m.1 | exact m0.1 | exact m1.1 | exact m2.1 | exact m3.1 | exact g_us | assumption)) ?_
    have s2 := s1.resolve_left (fun y => nrF_2 k1 y.1)
    exact r_ireturn dX3_nearestNumerator_37 rfl rfl (⟨mQ.yes c16 (by rw [s2.2.2.2.1]; unfold nrA; rw [ti, tj, tk]) m1 (z1'.trans vZ_0) (vE.z.tr v1), t0.tr t1, rfl⟩)
  · refine r_aload0 dX3_nearestNumerator_19 ?_
    refine r_iload4 dX3_nearestNumerator_20 ?_
    refine r_callV (M' := mX3_fails) _ dX3_nearestNumerator_22 q3489 q3491 qs57 rfl (lw_all_tbl q3492) q138 (by exact pl_X3_fails) gc_X3 (by first | exact m.1 | exact m0.1 | exact m1.1 | exact m2.1 | exact m3.1 | assumption | exact g_us | (rw [g_un (by omega)]; assumption) | (rw [g_un (by omega)]; exact g_us) | (rw [g_un (by omega), g_un (by omega)]; assumption) | (rw [g_un (by omega), g_un (by omega)]; exact g_us) | (rw [g_un (by omega), g_un (by omega), g_un (by omega)]; assumption) | ((repeat (rw [g_un (by omega)])); first | exact m.1 | exact m0.1 | exact m1.1 | exact m2.1 | exact m3.1 | exact g_us | assumption)) ((k_fails hb m0)) (by omega) (Nat.le_of_ble_eq_true rfl) (by omega) (by omega) rfl (Nat.le_of_ble_eq_true rfl) rfl (kI fun r22 h22 n22 e22 => ?_) kN
    obtain ⟨rfl, m1, t1, rfl⟩ := e22
    exact r_ireturn dX3_nearestNumerator_25 rfl rfl (⟨mQ.no c16 m1, t0.tr t1, rfl⟩)
theorem k_nearestDenominator {p q l : Int32} (hb : k_b K ≤ a) (m : mS a V R A h) (w : wB u (R 1)) : g_Met K mX3_nearestDenominator 4 0 0 [.ref a, .int p, .int q, .int l] h n (gI fun r h' n' => mQ a V R A (eNe (R 1) p q l) (nrA (R 1) p q l).2 r h' ∧ mT a h h' ∧ n' = n) gN := by
  have b := w.b
  have z := eNe_b (ρ := R 1) (p := p) (q := q) (l := l)
  refine g_Met.of (M := mX3_nearestDenominator) (L := [some (.ref a), some (.int p), some (.int q), some (.int l), none]) (by decide +kernel) (Nat.le_of_ble_eq_true rfl) rfl ?_
  refine r_aload0 dX3_nearestDenominator_0 ?_
  refine r_iconst (v := nI 0) dX3_nearestDenominator_1 (by decide) ?_
  refine p_X3_1_X3 dX3_nearestDenominator_2 (by omega) (by first | exact m.1 | exact m0.1 | exact m1.1 | exact m2.1 | exact m3.1 | assumption | exact g_us | (rw [g_un (by omega)]; assumption) | (rw [g_un (by omega)]; exact g_us) | (rw [g_un (by omega), g_un (by omega)]; assumption) | (rw [g_un (by omega), g_un (by omega)]; exact g_us) | (rw [g_un (by omega), g_un (by omega), g_un (by omega)]; assumption) | ((repeat (rw [g_un (by omega)])); first | exact m.1 | exact m0.1 | exact m1.1 | exact m2.1 | exact m3.1 | exact g_us | assumption)) ?_
  refine m.goZ (fun h0 m0 t0 => ?_)
  refine r_aload0 dX3_nearestDenominator_5 ?_
  refine r_iload1 dX3_nearestDenominator_6 ?_
  refine r_iload2 dX3_nearestDenominator_7 ?_
  refine r_iload3 dX3_nearestDenominator_8 ?_
  refine r_callV (M' := mX3_notNearest) _ dX3_nearestDenominator_9 q3728 q3730 qs97 rfl (lw_all_tbl q3731) q138 (by exact pl_X3_notNearest) gc_X3 (by first | exact m.1 | exact m0.1 | exact m1.1 | exact m2.1 | exact m3.1 | assumption | exact g_us | (rw [g_un (by omega)]; assumption) | (rw [g_un (by omega)]; exact g_us) | (rw [g_un (by omega), g_un (by omega)]; assumption) | (rw [g_un (by omega), g_un (by omega)]; exact g_us) | (rw [g_un (by omega), g_un (by omega), g_un (by omega)]; assumption) | ((repeat (rw [g_un (by omega)])); first | exact m.1 | exact m0.1 | exact m1.1 | exact m2.1 | exact m3.1 | exact g_us | assumption)) ((k_notNearest m0 w)) (by omega) (Nat.le_of_ble_eq_true rfl) (by omega) (by omega) rfl (Nat.le_of_ble_eq_true rfl) rfl (kI fun r9 h9 n9 e9 => ?_) kN
  obtain ⟨rfl, rfl, rfl⟩ := e9
  refine r_istore4 dX3_nearestDenominator_12 ?_
  refine r_iload4 dX3_nearestDenominator_14 ?_
  refine r_if_eqN (tgt := 26) dX3_nearestDenominator_16 (by decide) (by omega) (fun c16 => ?_) (fun c16 => ?_)
  · obtain ⟨z1, z2, z3, z4⟩ := eNe_0 c16
    obtain ⟨i, hi, rfl, ti⟩ := ix_ex z1
    obtain ⟨j, hj, rfl, tj⟩ := ix_ex z2
    obtain ⟨k, k1, k2, rfl, tk⟩ := bt_ex z3
    rw [tj] at z4
    refine r_aload0 dX3_nearestDenominator_26 ?_
    refine r_iload1 dX3_nearestDenominator_27 ?_
    refine r_iload2 dX3_nearestDenominator_28 ?_
    refine r_iload3 dX3_nearestDenominator_29 ?_
    refine r_callV (M' := mX3_finds) _ dX3_nearestDenominator_30 q3732 q3734 qs98 rfl (lw_all_tbl q3735) q138 (by exact pl_X3_finds) gc_X3 (by first | exact m.1 | exact m0.1 | exact m1.1 | exact m2.1 | exact m3.1 | assumption | exact g_us | (rw [g_un (by omega)]; assumption) | (rw [g_un (by omega)]; exact g_us) | (rw [g_un (by omega), g_un (by omega)]; assumption) | (rw [g_un (by omega), g_un (by omega)]; exact g_us) | (rw [g_un (by omega), g_un (by omega), g_un (by omega)]; assumption) | ((repeat (rw [g_un (by omega)])); first | exact m.1 | exact m0.1 | exact m1.1 | exact m2.1 | exact m3.1 | exact g_us | assumption)) ((k_finds hb m0 w hi hj k2 rfl rfl (Nat.mul_pos (w.d hi).2.1 (Nat.pos_of_ne_zero z4)))) (by omega) (Nat.le_of_ble_eq_true rfl) (by omega) (by omega) rfl (Nat.le_of_ble_eq_true rfl) rfl (kV fun h30 n30 e30 => ?_) kN
    obtain ⟨⟨V1, m1, s1, z1', v1⟩, t1, rfl⟩ := e30
    refine r_aload0 dX3_nearestDenominator_33 ?_
    refine f_X3_207_X3 dX3_nearestDenominator_34 (by first | exact m.1 | exact m0.1 | exact m1.1 | exact m2.1 | exact m3.1 | assumption | exact g_us | (rw [g_un (by omega)]; assumption) | (rw [g_un (by omega)]; exact g_us) | (rw [g_un (by omega), g_un (by omega)]; assumption) | (rw [g_un (by omega), g_un (by omega)]; exact g_us) | (rw [g_un (by omega), g_un (by omega), g_un (by omega)]; assumption) | ((repeat (rw [g_un (by omega)])); first | exact m.1 | exact m0.1 | exact m1.1 | exact m2.1 | exact m3.1 | exact g_us | assumption)) ?_
    have s2 := s1.resolve_left (fun y => nrF_2 k1 y.1)
    exact r_ireturn dX3_nearestDenominator_37 rfl rfl (⟨mQ.yes c16 (by rw [s2.2.2.2.2.1]; unfold nrA; rw [ti, tj, tk]) m1 (z1'.trans vZ_0) (vE.z.tr v1), t0.tr t1, rfl⟩)
  · refine r_aload0 dX3_nearestDenominator_19 ?_
    refine r_iload4 dX3_nearestDenominator_20 ?_
    refine r_callV (M' := mX3_fails) _ dX3_nearestDenominator_22 q3489 q3491 qs57 rfl (lw_all_tbl q3492) q138 (by exact pl_X3_fails) gc_X3 (by first | exact m.1 | exact m0.1 | exact m1.1 | exact m2.1 | exact m3.1 | assumption | exact g_us | (rw [g_un (by omega)]; assumption) | (rw [g_un (by omega)]; exact g_us) | (rw [g_un (by omega), g_un (by omega)]; assumption) | (rw [g_un (by omega), g_un (by omega)]; exact g_us) | (rw [g_un (by omega), g_un (by omega), g_un (by omega)]; assumption) | ((repeat (rw [g_un (by omega)])); first | exact m.1 | exact m0.1 | exact m1.1 | exact m2.1 | exact m3.1 | exact g_us | assumption)) ((k_fails hb m0)) (by omega) (Nat.le_of_ble_eq_true rfl) (by omega) (by omega) rfl (Nat.le_of_ble_eq_true rfl) rfl (kI fun r22 h22 n22 e22 => ?_) kN
    obtain ⟨rfl, m1, t1, rfl⟩ := e22
    exact r_ireturn dX3_nearestDenominator_25 rfl rfl (⟨mQ.no c16 m1, t0.tr t1, rfl⟩)
theorem k_denominatorByTrying {p q l : Int32} (hb : k_b K ≤ a) (m : mS a V R A h) (w : wB u (R 1)) : g_Met K mX3_denominatorByTrying 5 0 0 [.ref a, .int p, .int q, .int l] h n (gI fun r h' n' => mQ a V R A (eNe (R 1) p q l) (nrA (R 1) p q l).2 r h' ∧ mT a h h' ∧ n' = n) gN := by
  refine g_Met.of (M := mX3_denominatorByTrying) (L := [some (.ref a), some (.int p), some (.int q), some (.int l)]) (by decide +kernel) (Nat.le_of_ble_eq_true rfl) rfl ?_
  refine r_aload0 dX3_denominatorByTrying_0 ?_
  refine r_iload1 dX3_denominatorByTrying_1 ?_
  refine r_iload2 dX3_denominatorByTrying_2 ?_
  refine r_iload3 dX3_denominatorByTrying_3 ?_
  refine r_callV (M' := mX3_nearestDenominator) _ dX3_denominatorByTrying_4 q3748 q3741 q3742 rfl (lw_all_tbl q3743) q138 (by exact pl_X3_nearestDenominator) gc_X3 (by first | exact m.1 | exact m0.1 | exact m1.1 | exact m2.1 | exact m3.1 | assumption | exact g_us | (rw [g_un (by omega)]; assumption) | (rw [g_un (by omega)]; exact g_us) | (rw [g_un (by omega), g_un (by omega)]; assumption) | (rw [g_un (by omega), g_un (by omega)]; exact g_us) | (rw [g_un (by omega), g_un (by omega), g_un (by omega)]; assumption) | ((repeat (rw [g_un (by omega)])); first | exact m.1 | exact m0.1 | exact m1.1 | exact m2.1 | exact m3.1 | exact g_us | assumption)) ((k_nearestDenominator hb m w)) (by omega) (Nat.le_of_ble_eq_true rfl) (by omega) (by omega) rfl (Nat.le_of_ble_eq_true rfl) rfl (kI fun r4 h4 n4 e4 => ?_) kN
  exact r_ireturn dX3_denominatorByTrying_7 rfl rfl (e4)
end
