/-! the loaf at a rank, the fullest bowl, accounts -/
set_option maxRecDepth 100000
theorem df_gt {x y : Nat} (hx : x < 1073741824) (hy : y < 1073741824) : (0 : Int32) < nI x - nI y ↔ y < x := by
  rw [Int32.lt_iff_toInt_lt, Int32.toInt_sub, nI_toInt (by omega), nI_toInt (by omega), Int.bmod_def, show (0 : Int32).toInt = 0 from rfl]
  split <;> omega
theorem df_0 {x y : Nat} (hx : x < 1073741824) (hy : y < 1073741824) : nI x - nI y = 0 ↔ x = y := by
  rw [← Int32.toInt_inj, Int32.toInt_sub, nI_toInt (by omega), nI_toInt (by omega), Int.bmod_def, show (0 : Int32).toInt = 0 from rfl]
  split <;> omega
theorem df_lt {x y : Nat} (hx : x < 1073741824) (hy : y < 1073741824) : nI x - nI y < (0 : Int32) ↔ x < y := by
  rw [Int32.lt_iff_toInt_lt, Int32.toInt_sub, nI_toInt (by omega), nI_toInt (by omega), Int.bmod_def, show (0 : Int32).toInt = 0 from rfl]
  split <;> omega
theorem nI_ne1 {k : Nat} (h : k < 2147483648) : ¬ nI k = -1 := fun z => by
  have h1 := congrArg Int32.toInt z
  rw [nI_toInt h, show (-1 : Int32).toInt = -1 by decide +kernel] at h1
  omega
/-- a number, or none -/
def oI (o : Option Nat) : Int32 := o.elim (-1) nI
section
variable {K : g_K} {W : c_W} {A : Nat → Nat} {lo hi b t l e n u : Nat} {ρ ρ' : Nat → Nat} {α : Nat → Int64} {h h' : g_P}
theorem k_loafAt (k : bk K W lo hi b ρ α h) (w : wB u ρ) {p : Int32} : g_Met K mX2_loafAt 3 0 0 [.ref b, .int p] h n (gI fun r h' n' => r = oI (lAt ρ 2 p) ∧ h' = h ∧ n' = n) gN := by
  have wb := w.b
  obtain ⟨k1, k2, k3, t, lb, eb, ll, el, k4, k5, k6, k7, k8, k9⟩ := k
  obtain ⟨y1, y2, y3⟩ := k7.cell
  have lb9 : ∀ {j : Nat}, j < ρ 2 → ρ (34 + 3 * j) < 1073741824 := fun {j} hj => by
    have := (w.l hj).2.2.2.2
    have : 9999 * u ≤ 9999 * 20000 := Nat.mul_le_mul_left _ wb.1
    omega
  have e2 : ∀ j, ρ (32 + 3 * j + 2) = ρ (34 + 3 * j) := fun j => by rw [show 32 + 3 * j + 2 = 34 + 3 * j by omega]
  have inner : ∀ (a : Nat), a < ρ 2 → (∀ o4 o5 : Option Value, g_c1 o4 → g_c1 o5 → g_G K mX2_loafAt 3 0 0 (gI fun r h' n' => r = oI (fnd (fun a => nI (rkL ρ 2 a (ρ 2)) = p) a (ρ 2 - a)) ∧ h' = h ∧ n' = n) gN 100 [some (.ref b), some (.int p), some (.int (nI a)), some (.int (nI (rkL ρ 2 a (ρ 2)))), o4, o5] [] h n) → ∀ (g j : Nat) (o5 : Option Value), j + g = ρ 2 → g_c1 o5 →
      g_G K mX2_loafAt 3 0 0 (gI fun r h' n' => r = oI (fnd (fun a => nI (rkL ρ 2 a (ρ 2)) = p) a (ρ 2 - a)) ∧ h' = h ∧ n' = n) gN 20 [some (.ref b), some (.int p), some (.int (nI a)), some (.int (nI (rkL ρ 2 a j))), some (.int (nI j)), o5] [] h n := by
    intro a ha kc g
    induction g with
    | zero =>
      intro j o5 hj g5
      have : j = ρ 2 := by omega
      subst this
      refine r_iload4 dX2_loafAt_20 ?_
      refine r_aload0 dX2_loafAt_22 ?_
      refine f_X2_25_X2 dX2_loafAt_23 k4 ?_
      refine r_callF (M' := mJ4_size) _ dX2_loafAt_26 q1895 q413 q412 rfl q415 q417 q418 q416 q414 rfl (lw_all_tbl q419) q131 (by exact (⟨by decide, by decide, by decide +kernel⟩ : g_pl ⟨"java/util/List", "size", "()I"⟩ 0)) gc_J4 y3 ((k_sizeL k7)) (by omega) (Nat.le_of_ble_eq_true rfl) (by omega) (by omega) rfl (Nat.le_of_ble_eq_true rfl) rfl (kI fun r26 h26 n26 e26 => ?_) kN
      obtain ⟨q9, q8, q7⟩ := e26; have q9 := q9.symm; have q8 := q8.symm; have q7 := q7.symm; subst q9; subst q8; subst q7
      refine r_icmp_geN (tgt := 100) dX2_loafAt_31 (by decide) (by omega) (by omega) (fun c31 => ?_) (fun c31 => absurd c31 (by omega))
      exact kc _ _ g_c1i g5
    | succ g ih =>
      intro j o5 hj g5
      obtain ⟨x, z1, z2, z3⟩ := k_getL (n := n) k7 (i := j) (by omega)
      obtain ⟨x2, z11, z12, z13⟩ := k_getL (n := n) k7 (i := a) ha
      have q1 := lb9 ha
      have q2 := lb9 (j := j) (by omega)
      refine r_iload4 dX2_loafAt_20 ?_
      refine r_aload0 dX2_loafAt_22 ?_
      refine f_X2_25_X2 dX2_loafAt_23 k4 ?_
      refine r_callF (M' := mJ4_size) _ dX2_loafAt_26 q1895 q413 q412 rfl q415 q417 q418 q416 q414 rfl (lw_all_tbl q419) q131 (by exact (⟨by decide, by decide, by decide +kernel⟩ : g_pl ⟨"java/util/List", "size", "()I"⟩ 0)) gc_J4 y3 ((k_sizeL k7)) (by omega) (Nat.le_of_ble_eq_true rfl) (by omega) (by omega) rfl (Nat.le_of_ble_eq_true rfl) rfl (kI fun r26 h26 n26 e26 => ?_) kN
      obtain ⟨q9, q8, q7⟩ := e26; have q9 := q9.symm; have q8 := q8.symm; have q7 := q7.symm; subst q9; subst q8; subst q7
      refine r_icmp_geN (tgt := 100) dX2_loafAt_31 (by decide) (by omega) (by omega) (fun c31 => absurd c31 (by omega)) (fun c31 => ?_)
      refine r_aload0 dX2_loafAt_34 ?_
      refine f_X2_25_X2 dX2_loafAt_35 k4 ?_
      refine r_iload4 dX2_loafAt_38 ?_
      refine r_callF (M' := mJ4_get) _ dX2_loafAt_40 q1907 q468 q467 rfl q469 q471 q472 q470 q414 rfl (lw_all_tbl q473) q131 (by exact (⟨by decide, by decide, by decide +kernel⟩ : g_pl ⟨"java/util/List", "get", "(I)Ljava/lang/Object;"⟩ 1)) gc_J4 y3 (z3) (by omega) (Nat.le_of_ble_eq_true rfl) (by omega) (by omega) rfl (Nat.le_of_ble_eq_true rfl) rfl (kA fun r40 h40 n40 t40 e40 => ?_) kN
      obtain ⟨q9, q8, q7⟩ := e40; have q9 := q9.symm; have q8 := q8.symm; have q7 := q7.symm; subst q9; subst q8; subst q7
      refine r_checkcast dX2_loafAt_45 gc_X8 q1648 (Or.inl rfl) z1 ?_
      refine f_X2_139_X8 dX2_loafAt_48 z1 ?_
      refine r_aload0 dX2_loafAt_51 ?_
      refine f_X2_25_X2 dX2_loafAt_52 k4 ?_
      refine r_iload2 dX2_loafAt_55 ?_
      refine r_callF (M' := mJ4_get) _ dX2_loafAt_56 q1907 q468 q467 rfl q469 q471 q472 q470 q414 rfl (lw_all_tbl q473) q131 (by exact (⟨by decide, by decide, by decide +kernel⟩ : g_pl ⟨"java/util/List", "get", "(I)Ljava/lang/Object;"⟩ 1)) gc_J4 y3 (z13) (by omega) (Nat.le_of_ble_eq_true rfl) (by omega) (by omega) rfl (Nat.le_of_ble_eq_true rfl) rfl (kA fun r56 h56 n56 t56 e56 => ?_) kN
      obtain ⟨q9, q8, q7⟩ := e56; have q9 := q9.symm; have q8 := q8.symm; have q7 := q7.symm; subst q9; subst q8; subst q7
      refine r_checkcast dX2_loafAt_61 gc_X8 q1648 (Or.inl rfl) z11 ?_
      refine f_X2_139_X8 dX2_loafAt_64 z11 ?_
      refine r_isub dX2_loafAt_67 (by first | exact pk_sub (by omega) | rfl) ?_
      refine r_istore5 dX2_loafAt_68 ?_
      refine r_iload3 dX2_loafAt_70 ?_
      refine r_iload5 dX2_loafAt_71 ?_
      refine r_if_gt (tgt := 87) dX2_loafAt_73 (by decide) (fun c73 => ?_) (fun c73 => ?_)
      · refine r_iconst (v := nI 1) dX2_loafAt_87 (by decide) ?_
        refine r_goto (tgt := 92) dX2_loafAt_88 (by decide) ?_
        refine r_iadd dX2_loafAt_92 (show _ = nI (rkL ρ 2 a (j + 1)) by rw [rkL_y (Or.inl (by rw [e2, e2]; exact (df_gt q2 q1).mp c73)), nI_add]) ?_
        refine r_istore3 dX2_loafAt_93 ?_
        refine r_iinc4 dX2_loafAt_94 (ii1 _) ?_
        refine r_goto (tgt := 20) dX2_loafAt_97 (by decide) ?_
        exact ih (j + 1) _ (by omega) g_c1i
      · refine r_iload5 dX2_loafAt_76 ?_
        refine r_if_ne (tgt := 91) dX2_loafAt_78 (by decide) (fun c78 => ?_) (fun c78 => ?_)
        · refine r_iconst (v := nI 0) dX2_loafAt_91 (by decide) ?_
          refine r_iadd dX2_loafAt_92 (show _ = nI (rkL ρ 2 a (j + 1)) by rw [rkL_n (fun z => by simp only [e2] at z; rcases z with z | z; exact c73 ((df_gt q2 q1).mpr z); exact c78 ((df_0 q2 q1).mpr z.1)), nI_add]) ?_
          refine r_istore3 dX2_loafAt_93 ?_
          refine r_iinc4 dX2_loafAt_94 (ii1 _) ?_
          refine r_goto (tgt := 20) dX2_loafAt_97 (by decide) ?_
          exact ih (j + 1) _ (by omega) g_c1i
        · refine r_iload4 dX2_loafAt_81 ?_
          refine r_iload2 dX2_loafAt_83 ?_
          refine r_icmp_geN (tgt := 91) dX2_loafAt_84 (by decide) (by omega) (by omega) (fun c84 => ?_) (fun c84 => ?_)
          · refine r_iconst (v := nI 0) dX2_loafAt_91 (by decide) ?_
            refine r_iadd dX2_loafAt_92 (show _ = nI (rkL ρ 2 a (j + 1)) by rw [rkL_n (fun z => by simp only [e2] at z; rcases z with z | z; exact c73 ((df_gt q2 q1).mpr z); omega), nI_add]) ?_
            refine r_istore3 dX2_loafAt_93 ?_
            refine r_iinc4 dX2_loafAt_94 (ii1 _) ?_
            refine r_goto (tgt := 20) dX2_loafAt_97 (by decide) ?_
            exact ih (j + 1) _ (by omega) g_c1i
          · refine r_iconst (v := nI 1) dX2_loafAt_87 (by decide) ?_
            refine r_goto (tgt := 92) dX2_loafAt_88 (by decide) ?_
            refine r_iadd dX2_loafAt_92 (show _ = nI (rkL ρ 2 a (j + 1)) by rw [rkL_y (Or.inr ⟨by rw [e2, e2]; exact (df_0 q2 q1).mp c78, by omega⟩), nI_add]) ?_
            refine r_istore3 dX2_loafAt_93 ?_
            refine r_iinc4 dX2_loafAt_94 (ii1 _) ?_
            refine r_goto (tgt := 20) dX2_loafAt_97 (by decide) ?_
            exact ih (j + 1) _ (by omega) g_c1i
  have outer : ∀ (g a : Nat) (o3 o4 o5 : Option Value), a + g = ρ 2 → g_c1 o3 → g_c1 o4 → g_c1 o5 → g_G K mX2_loafAt 3 0 0 (gI fun r h' n' => r = oI (fnd (fun a => nI (rkL ρ 2 a (ρ 2)) = p) a (ρ 2 - a)) ∧ h' = h ∧ n' = n) gN 2 [some (.ref b), some (.int p), some (.int (nI a)), o3, o4, o5] [] h n := by
    intro g
    induction g with
    | zero =>
      intro a o3 o4 o5 ha g3 g4 g5
      refine r_iload2 dX2_loafAt_2 ?_
      refine r_aload0 dX2_loafAt_3 ?_
      refine f_X2_25_X2 dX2_loafAt_4 k4 ?_
      refine r_callF (M' := mJ4_size) _ dX2_loafAt_7 q1895 q413 q412 rfl q415 q417 q418 q416 q414 rfl (lw_all_tbl q419) q131 (by exact (⟨by decide, by decide, by decide +kernel⟩ : g_pl ⟨"java/util/List", "size", "()I"⟩ 0)) gc_J4 y3 ((k_sizeL k7)) (by omega) (Nat.le_of_ble_eq_true rfl) (by omega) (by omega) rfl (Nat.le_of_ble_eq_true rfl) rfl (kI fun r7 h7 n7 e7 => ?_) kN
      obtain ⟨q9, q8, q7⟩ := e7; have q9 := q9.symm; have q8 := q8.symm; have q7 := q7.symm; subst q9; subst q8; subst q7
      refine r_icmp_geN (tgt := 113) dX2_loafAt_12 (by decide) (by omega) (by omega) (fun c12 => ?_) (fun c12 => absurd c12 (by omega))
      refine r_iconst (v := -1) dX2_loafAt_113 (by decide) ?_
      exact r_ireturn dX2_loafAt_114 rfl rfl (⟨by rw [show ρ 2 - a = 0 by omega]; rfl, rfl, rfl⟩)
    | succ g ih =>
      intro a o3 o4 o5 ha g3 g4 g5
      have e9 : ρ 2 - a = (ρ 2 - (a + 1)) + 1 := by omega
      refine r_iload2 dX2_loafAt_2 ?_
      refine r_aload0 dX2_loafAt_3 ?_
      refine f_X2_25_X2 dX2_loafAt_4 k4 ?_
      refine r_callF (M' := mJ4_size) _ dX2_loafAt_7 q1895 q413 q412 rfl q415 q417 q418 q416 q414 rfl (lw_all_tbl q419) q131 (by exact (⟨by decide, by decide, by decide +kernel⟩ : g_pl ⟨"java/util/List", "size", "()I"⟩ 0)) gc_J4 y3 ((k_sizeL k7)) (by omega) (Nat.le_of_ble_eq_true rfl) (by omega) (by omega) rfl (Nat.le_of_ble_eq_true rfl) rfl (kI fun r7 h7 n7 e7 => ?_) kN
      obtain ⟨q9, q8, q7⟩ := e7; have q9 := q9.symm; have q8 := q8.symm; have q7 := q7.symm; subst q9; subst q8; subst q7
      refine r_icmp_geN (tgt := 113) dX2_loafAt_12 (by decide) (by omega) (by omega) (fun c12 => absurd c12 (by omega)) (fun c12 => ?_)
      refine r_iconst (v := nI 0) dX2_loafAt_15 (by decide) ?_
      refine r_istore3 dX2_loafAt_16 ?_
      refine r_iconst (v := nI 0) dX2_loafAt_17 (by decide) ?_
      refine r_istore4 dX2_loafAt_18 ?_
      refine inner a (by omega) (fun o4 o5 g4 g5 => ?_) (ρ 2) 0 _ (by omega) g5
      have ih' := ih (a + 1)
      rw [e9]
      refine r_iload3 dX2_loafAt_100 ?_
      refine r_iload1 dX2_loafAt_101 ?_
      refine r_icmp_ne (tgt := 107) dX2_loafAt_102 (by decide) (fun c102 => ?_) (fun c102 => ?_)
      · rw [fnd_n c102]
        refine r_iinc2 dX2_loafAt_107 (ii1 _) ?_
        refine r_goto (tgt := 2) dX2_loafAt_110 (by decide) ?_
        exact ih' _ _ _ (by omega) g_c1i g4 g5
      · refine r_iload2 dX2_loafAt_105 ?_
        exact r_ireturn dX2_loafAt_106 rfl rfl (⟨by rw [fnd_y c102]; rfl, rfl, rfl⟩)
  refine g_Met.of (M := mX2_loafAt) (L := [some (.ref b), some (.int p), none, none, none, none]) (by decide +kernel) (Nat.le_of_ble_eq_true rfl) rfl ?_
  refine r_iconst (v := nI 0) dX2_loafAt_0 (by decide) ?_
  refine r_istore2 dX2_loafAt_1 ?_
  exact outer (ρ 2) 0 _ _ _ (by omega) g_c1n g_c1n g_c1n
theorem k_fullest2 (k : bk K W lo hi b ρ α h) (w : wB u ρ) : g_Met K mX2_fullest 3 0 0 [.ref b] h n (gI fun r h' n' => r = (if ρ 1 = 0 then -1 else nI (ful (fun k => ρ (23 + 2 * k)) (ρ 1))) ∧ h' = h ∧ n' = n) gN := by
  have wb := w.b
  obtain ⟨k1, k2, k3, t, lb, eb, ll, el, k4, k5, k6, k7, k8, k9⟩ := k
  obtain ⟨y1, y2, y3⟩ := k6.cell
  have loop : ∀ (g j : Nat) (o3 : Option Value), j + 1 + g = ρ 1 → g_c1 o3 → g_G K mX2_fullest 3 0 0 (gI fun r h' n' => r = (if ρ 1 = 0 then -1 else nI (ful (fun k => ρ (23 + 2 * k)) (ρ 1))) ∧ h' = h ∧ n' = n) gN 4 [some (.ref b), some (.int (nI (ful (fun k => ρ (23 + 2 * k)) (j + 1)))), some (.int (nI (j + 1))), o3] [] h n := by
    intro g
    induction g with
    | zero =>
      intro j o3 hj g3
      refine r_iload2 dX2_fullest_4 ?_
      refine r_aload0 dX2_fullest_5 ?_
      refine f_X2_21_X2 dX2_fullest_6 k4 ?_
      refine r_callF (M' := mJ4_size) _ dX2_fullest_9 q1895 q413 q412 rfl q415 q417 q418 q416 q414 rfl (lw_all_tbl q419) q131 (by exact (⟨by decide, by decide, by decide +kernel⟩ : g_pl ⟨"java/util/List", "size", "()I"⟩ 0)) gc_J4 y3 ((k_sizeB k6)) (by omega) (Nat.le_of_ble_eq_true rfl) (by omega) (by omega) rfl (Nat.le_of_ble_eq_true rfl) rfl (kI fun r9 h9 n9 e9 => ?_) kN
      obtain ⟨q9, q8, q7⟩ := e9; have q9 := q9.symm; have q8 := q8.symm; have q7 := q7.symm; subst q9; subst q8; subst q7
      refine r_icmp_geN (tgt := 79) dX2_fullest_14 (by decide) (by omega) (by omega) (fun c14 => ?_) (fun c14 => absurd c14 (by omega))
      refine r_iload1 dX2_fullest_79 ?_
      exact r_ireturn dX2_fullest_80 rfl rfl (⟨by rw [if_neg (by omega), hj], rfl, rfl⟩)
    | succ g ih =>
      intro j o3 hj g3
      have fl := ful_lt (f := fun k => ρ (23 + 2 * k)) (n := j + 1) (by omega)
      obtain ⟨x, z1, z2, z3⟩ := k_getB (n := n) k6 (i := j + 1) (by omega)
      obtain ⟨x2, z11, z12, z13⟩ := k_getB (n := n) k6 (i := ful (fun k => ρ (23 + 2 * k)) (j + 1)) (by omega)
      have q1 := w.o (k := j + 1) (by omega)
      have q2 := w.o (k := ful (fun k => ρ (23 + 2 * k)) (j + 1)) (by omega)
      refine r_iload2 dX2_fullest_4 ?_
      refine r_aload0 dX2_fullest_5 ?_
      refine f_X2_21_X2 dX2_fullest_6 k4 ?_
      refine r_callF (M' := mJ4_size) _ dX2_fullest_9 q1895 q413 q412 rfl q415 q417 q418 q416 q414 rfl (lw_all_tbl q419) q131 (by exact (⟨by decide, by decide, by decide +kernel⟩ : g_pl ⟨"java/util/List", "size", "()I"⟩ 0)) gc_J4 y3 ((k_sizeB k6)) (by omega) (Nat.le_of_ble_eq_true rfl) (by omega) (by omega) rfl (Nat.le_of_ble_eq_true rfl) rfl (kI fun r9 h9 n9 e9 => ?_) kN
      obtain ⟨q9, q8, q7⟩ := e9; have q9 := q9.symm; have q8 := q8.symm; have q7 := q7.symm; subst q9; subst q8; subst q7
      refine r_icmp_geN (tgt := 79) dX2_fullest_14 (by decide) (by omega) (by omega) (fun c14 => absurd c14 (by omega)) (fun c14 => ?_)
      refine r_iload1 dX2_fullest_17 ?_
      refine r_iconst (v := -1) dX2_fullest_18 (by decide) ?_
      refine r_icmp_eq (tgt := 57) dX2_fullest_19 (by decide) (fun c19 => absurd c19 ((nI_ne1 (by omega)))) (fun c19 => ?_)
      refine r_aload0 dX2_fullest_22 ?_
      refine f_X2_21_X2 dX2_fullest_23 k4 ?_
      refine r_iload2 dX2_fullest_26 ?_
      refine r_callF (M' := mJ4_get) _ dX2_fullest_27 q1907 q468 q467 rfl q469 q471 q472 q470 q414 rfl (lw_all_tbl q473) q131 (by exact (⟨by decide, by decide, by decide +kernel⟩ : g_pl ⟨"java/util/List", "get", "(I)Ljava/lang/Object;"⟩ 1)) gc_J4 y3 (z3) (by omega) (Nat.le_of_ble_eq_true rfl) (by omega) (by omega) rfl (Nat.le_of_ble_eq_true rfl) rfl (kA fun r27 h27 n27 t27 e27 => ?_) kN
      obtain ⟨q9, q8, q7⟩ := e27; have q9 := q9.symm; have q8 := q8.symm; have q7 := q7.symm; subst q9; subst q8; subst q7
      refine r_checkcast dX2_fullest_32 gc_X7 q1647 (Or.inl rfl) z1 ?_
      refine f_X2_88_X7 dX2_fullest_35 z1 ?_
      refine r_aload0 dX2_fullest_38 ?_
      refine f_X2_21_X2 dX2_fullest_39 k4 ?_
      refine r_iload1 dX2_fullest_42 ?_
      refine r_callF (M' := mJ4_get) _ dX2_fullest_43 q1907 q468 q467 rfl q469 q471 q472 q470 q414 rfl (lw_all_tbl q473) q131 (by exact (⟨by decide, by decide, by decide +kernel⟩ : g_pl ⟨"java/util/List", "get", "(I)Ljava/lang/Object;"⟩ 1)) gc_J4 y3 (z13) (by omega) (Nat.le_of_ble_eq_true rfl) (by omega) (by omega) rfl (Nat.le_of_ble_eq_true rfl) rfl (kA fun r43 h43 n43 t43 e43 => ?_) kN
      obtain ⟨q9, q8, q7⟩ := e43; have q9 := q9.symm; have q8 := q8.symm; have q7 := q7.symm; subst q9; subst q8; subst q7
      refine r_checkcast dX2_fullest_48 gc_X7 q1647 (Or.inl rfl) z11 ?_
      refine f_X2_88_X7 dX2_fullest_51 z11 ?_
      refine r_icmp_leN (tgt := 61) dX2_fullest_54 (by decide) (by omega) (by omega) (fun c54 => ?_) (fun c54 => ?_)
      · refine r_iconst (v := nI 0) dX2_fullest_61 (by decide) ?_
        refine r_istore3 dX2_fullest_62 ?_
        refine r_iload3 dX2_fullest_63 ?_
        refine r_if_eqN (tgt := 71) dX2_fullest_64 (by decide) (by omega) (fun c64 => ?_) (fun c64 => absurd c64 (by omega))
        refine r_iload1 dX2_fullest_71 ?_
        refine r_istore1 dX2_fullest_72 ?_
        refine g_eq rfl (show _ = [some (.ref b), some (.int (nI (ful (fun k => ρ (23 + 2 * k)) (j + 1 + 1)))), some (.int (nI (j + 1))), some (.int (nI 0))] by rw [show ful (fun k => ρ (23 + 2 * k)) (j + 1 + 1) = ful (fun k => ρ (23 + 2 * k)) (j + 1) from if_neg (show ¬ ρ (23 + 2 * ful (fun k => ρ (23 + 2 * k)) (j + 1)) < ρ (23 + 2 * (j + 1)) by omega)]) rfl rfl ?_
        refine r_iinc2 dX2_fullest_73 (ii1 _) ?_
        refine r_goto (tgt := 4) dX2_fullest_76 (by decide) ?_
        exact ih (j + 1) _ (by omega) g_c1i
      · refine r_iconst (v := nI 1) dX2_fullest_57 (by decide) ?_
        refine r_goto (tgt := 62) dX2_fullest_58 (by decide) ?_
        refine r_istore3 dX2_fullest_62 ?_
        refine r_iload3 dX2_fullest_63 ?_
        refine r_if_eqN (tgt := 71) dX2_fullest_64 (by decide) (by omega) (fun c64 => absurd c64 (by omega)) (fun c64 => ?_)
        refine r_iload2 dX2_fullest_67 ?_
        refine r_goto (tgt := 72) dX2_fullest_68 (by decide) ?_
        refine r_istore1 dX2_fullest_72 ?_
        refine g_eq rfl (show _ = [some (.ref b), some (.int (nI (ful (fun k => ρ (23 + 2 * k)) (j + 1 + 1)))), some (.int (nI (j + 1))), some (.int (nI 1))] by rw [show ful (fun k => ρ (23 + 2 * k)) (j + 1 + 1) = j + 1 from if_pos (show ρ (23 + 2 * ful (fun k => ρ (23 + 2 * k)) (j + 1)) < ρ (23 + 2 * (j + 1)) by omega)]) rfl rfl ?_
        refine r_iinc2 dX2_fullest_73 (ii1 _) ?_
        refine r_goto (tgt := 4) dX2_fullest_76 (by decide) ?_
        exact ih (j + 1) _ (by omega) g_c1i
  refine g_Met.of (M := mX2_fullest) (L := [some (.ref b), none, none, none]) (by decide +kernel) (Nat.le_of_ble_eq_true rfl) rfl ?_
  by_cases c0 : ρ 1 = 0
  · skip
    refine r_iconst (v := -1) dX2_fullest_0 (by decide) ?_
    refine r_istore1 dX2_fullest_1 ?_
    refine r_iconst (v := nI 0) dX2_fullest_2 (by decide) ?_
    refine r_istore2 dX2_fullest_3 ?_
    refine r_iload2 dX2_fullest_4 ?_
    refine r_aload0 dX2_fullest_5 ?_
    refine f_X2_21_X2 dX2_fullest_6 k4 ?_
    refine r_callF (M' := mJ4_size) _ dX2_fullest_9 q1895 q413 q412 rfl q415 q417 q418 q416 q414 rfl (lw_all_tbl q419) q131 (by exact (⟨by decide, by decide, by decide +kernel⟩ : g_pl ⟨"java/util/List", "size", "()I"⟩ 0)) gc_J4 y3 ((k_sizeB k6)) (by omega) (Nat.le_of_ble_eq_true rfl) (by omega) (by omega) rfl (Nat.le_of_ble_eq_true rfl) rfl (kI fun r9 h9 n9 e9 => ?_) kN
    obtain ⟨q9, q8, q7⟩ := e9; have q9 := q9.symm; have q8 := q8.symm; have q7 := q7.symm; subst q9; subst q8; subst q7
    refine r_icmp_geN (tgt := 79) dX2_fullest_14 (by decide) (by omega) (by omega) (fun c14 => ?_) (fun c14 => absurd c14 (by omega))
    refine r_iload1 dX2_fullest_79 ?_
    exact r_ireturn dX2_fullest_80 rfl rfl (⟨by rw [if_pos c0], rfl, rfl⟩)
  · skip
    refine r_iconst (v := -1) dX2_fullest_0 (by decide) ?_
    refine r_istore1 dX2_fullest_1 ?_
    refine r_iconst (v := nI 0) dX2_fullest_2 (by decide) ?_
    refine r_istore2 dX2_fullest_3 ?_
    skip
    refine r_iload2 dX2_fullest_4 ?_
    refine r_aload0 dX2_fullest_5 ?_
    refine f_X2_21_X2 dX2_fullest_6 k4 ?_
    refine r_callF (M' := mJ4_size) _ dX2_fullest_9 q1895 q413 q412 rfl q415 q417 q418 q416 q414 rfl (lw_all_tbl q419) q131 (by exact (⟨by decide, by decide, by decide +kernel⟩ : g_pl ⟨"java/util/List", "size", "()I"⟩ 0)) gc_J4 y3 ((k_sizeB k6)) (by omega) (Nat.le_of_ble_eq_true rfl) (by omega) (by omega) rfl (Nat.le_of_ble_eq_true rfl) rfl (kI fun r9 h9 n9 e9 => ?_) kN
    obtain ⟨q9, q8, q7⟩ := e9; have q9 := q9.symm; have q8 := q8.symm; have q7 := q7.symm; subst q9; subst q8; subst q7
    refine r_icmp_geN (tgt := 79) dX2_fullest_14 (by decide) (by omega) (by omega) (fun c14 => absurd c14 (by omega)) (fun c14 => ?_)
    refine r_iload1 dX2_fullest_17 ?_
    refine r_iconst (v := -1) dX2_fullest_18 (by decide) ?_
    refine r_icmp_eq (tgt := 57) dX2_fullest_19 (by decide) (fun c19 => ?_) (fun c19 => absurd (rfl) c19)
    refine r_iconst (v := nI 1) dX2_fullest_57 (by decide) ?_
    refine r_goto (tgt := 62) dX2_fullest_58 (by decide) ?_
    refine r_istore3 dX2_fullest_62 ?_
    refine r_iload3 dX2_fullest_63 ?_
    refine r_if_eqN (tgt := 71) dX2_fullest_64 (by decide) (by omega) (fun c64 => absurd c64 (by omega)) (fun c64 => ?_)
    refine r_iload2 dX2_fullest_67 ?_
    refine r_goto (tgt := 72) dX2_fullest_68 (by decide) ?_
    refine r_istore1 dX2_fullest_72 ?_
    refine r_iinc2 dX2_fullest_73 (ii1 _) ?_
    refine r_goto (tgt := 4) dX2_fullest_76 (by decide) ?_
    have e9 : ful (fun k => ρ (23 + 2 * k)) (0 + 1) = 0 := ite_self 0
    have l9 := loop (ρ 1 - 1) 0 (some (.int (nI 1))) (by omega) g_c1i
    rw [e9] at l9
    exact l9
theorem k_crumbsByAccounts2 (k : bk K W lo hi b ρ α h) : g_Met K mX2_crumbsByAccounts 1 0 0 [.ref b] h n (gJ fun r h' n' => r = α 6 - α 7 - α 8 ∧ h' = h ∧ n' = n) gN := by
  obtain ⟨k1, k2, k3, t, lb, eb, ll, el, k4, k5, k6, k7, k8, k9⟩ := k
  refine g_Met.of (M := mX2_crumbsByAccounts) (L := [some (.ref b)]) (by decide +kernel) (Nat.le_of_ble_eq_true rfl) rfl ?_
  refine r_aload0 dX2_crumbsByAccounts_0 ?_
  refine f_X2_104_X2 dX2_crumbsByAccounts_1 k4 ?_
  refine r_aload0 dX2_crumbsByAccounts_4 ?_
  refine f_X2_108_X2 dX2_crumbsByAccounts_5 k4 ?_
  refine r_lsub dX2_crumbsByAccounts_8 rfl ?_
  refine r_aload0 dX2_crumbsByAccounts_9 ?_
  refine f_X2_111_X2 dX2_crumbsByAccounts_10 k4 ?_
  refine r_lsub dX2_crumbsByAccounts_13 rfl ?_
  exact r_lreturn dX2_crumbsByAccounts_14 rfl (⟨rfl, rfl, rfl⟩)
end
