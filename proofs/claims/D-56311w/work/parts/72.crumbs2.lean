/-! all crumbs of a bakery; setScale -/
set_option maxRecDepth 100000
/-- a question: what was there stays -/
def muQ (h : g_P) (n g : Nat) (res : Int32) : g_Q := gI fun r h' n' => r = res ∧ (∀ q : Nat, q < n → h' q = h q) ∧ n ≤ n' ∧ n' ≤ n + g
section
variable {K : g_K} {W : c_W} {A : Nat → Nat} {lo hi b t l e n u : Nat} {ρ ρ' : Nat → Nat} {α : Nat → Int64} {h h' : g_P}
theorem k_crumbs2 (k : bk K W lo n b ρ α h) (w : wB u ρ) : g_Met K mX2_crumbs 3 2 8 [.ref b] h n (muQ h n 2 (nI (cts ρ + ilv ρ))) gN := by
  refine g_Met.facts fun f1 f2 f3 => ?_
  have wb := w.b
  obtain ⟨k1, k2, k3, t, lb, eb, ll, el, k4, k5, k6, k7, k8, k9⟩ := k
  obtain ⟨b1, b2, b3, mb, B, b4, b5⟩ := k6
  obtain ⟨c1, c2, c3, mc, G, c4, c5⟩ := k7
  have b41 := b4.1
  have c41 := c4.1
  have loop2 : ∀ (g c : Nat) (v1 : Value) (o3 : Option Value) (h1 : g_P), c + g = ρ 2 → (∀ q : Nat, q < n → h1 q = h q) → g_G K mX2_crumbs 3 0 0 (muQ h n 2 (nI (cts ρ + ilv ρ))) gN 51 [some (.ref b), some (.int (nI (cts ρ + sm (fun k => ρ (34 + 3 * k)) c))), some (.ref (n + 1)), o3] [] (g_up h1 (n + 1) (g_ob 31 [.int (nI c), v1, .int mc, .ref ll])) (n + 2) := by
    intro g
    induction g with
    | zero =>
      intro c v1 o3 h1 hc hh
      have : c = ρ 2 := by omega
      subst this
      have c6 : lsT K W ll el mc (blist (ρ 2) G) (g_up h1 (n + 1) (g_ob 31 [.int (nI (ρ 2)), v1, .int mc, .ref ll])) := c4.of (by rw [g_un (by have := c1.2; omega), hh _ c1.2]) (by rw [g_un (by omega), hh _ c3])
      refine r_aload2 dX2_crumbs_51 ?_
      refine r_callF (M' := mJ33_hasNext) _ dX2_crumbs_52 q1644 q1357 q1356 rfl q1376 q1378 q1379 q1377 q1375 rfl (lw_all_tbl q1380) q167 (by exact (⟨by decide, by decide, by decide +kernel⟩ : g_pl ⟨"java/util/Iterator", "hasNext", "()Z"⟩ 0)) gc_J33 g_us ((k_J33_hasNext c6 (by rw [blist_len]; exact Nat.le_refl _) g_us)) (by omega) (Nat.le_of_ble_eq_true rfl) (by omega) (by omega) rfl (Nat.le_of_ble_eq_true rfl) rfl (kI fun r52 h52 n52 e52 => ?_) kN
      obtain ⟨q9, q8, q7⟩ := e52; have q9 := q9.symm; have q8 := q8.symm; have q7 := q7.symm; subst q9; subst q8; subst q7
      refine r_if_eqB (tgt := 80) dX2_crumbs_57 (by decide) (fun c57 => ?_) (fun c57 => absurd c57 (by rw [blist_len]; omega))
      refine r_iload1 dX2_crumbs_80 ?_
      exact r_ireturn dX2_crumbs_81 rfl rfl (⟨rfl, fun q hq => by rw [g_un (by omega), hh q hq], by omega, by omega⟩)
    | succ g ih =>
      intro c v1 o3 h1 hc hh
      have hcl : c < ρ 2 := by omega
      have c6 : lsT K W ll el mc (blist (ρ 2) G) (g_up h1 (n + 1) (g_ob 31 [.int (nI c), v1, .int mc, .ref ll])) := c4.of (by rw [g_un (by have := c1.2; omega), hh _ c1.2]) (by rw [g_un (by omega), hh _ c3])
      obtain ⟨d1, d2, d3⟩ := c5 c hcl
      have e1 : (g_up (g_up h1 (n + 1) (g_ob 31 [.int (nI c), v1, .int mc, .ref ll])) (n + 1) (g_ob 31 [.int (nI (c + 1)), .int (nI c), .int mc, .ref ll])) (G c) = some (lf ρ c) := by rw [g_un (by have := d2.2; omega), g_un (by have := d2.2; omega), hh _ d2.2, d1]
      refine r_aload2 dX2_crumbs_51 ?_
      refine r_callF (M' := mJ33_hasNext) _ dX2_crumbs_52 q1644 q1357 q1356 rfl q1376 q1378 q1379 q1377 q1375 rfl (lw_all_tbl q1380) q167 (by exact (⟨by decide, by decide, by decide +kernel⟩ : g_pl ⟨"java/util/Iterator", "hasNext", "()Z"⟩ 0)) gc_J33 g_us ((k_J33_hasNext c6 (by rw [blist_len]; omega) g_us)) (by omega) (Nat.le_of_ble_eq_true rfl) (by omega) (by omega) rfl (Nat.le_of_ble_eq_true rfl) rfl (kI fun r52 h52 n52 e52 => ?_) kN
      obtain ⟨q9, q8, q7⟩ := e52; have q9 := q9.symm; have q8 := q8.symm; have q7 := q7.symm; subst q9; subst q8; subst q7
      refine r_if_eqB (tgt := 80) dX2_crumbs_57 (by decide) (fun c57 => absurd c57 (by rw [blist_len]; omega)) (fun c57 => ?_)
      refine r_aload2 dX2_crumbs_60 ?_
      refine r_callF (M' := mJ33_next) _ dX2_crumbs_61 q1646 q1399 q1398 rfl q1505 q1507 q1508 q1506 q1375 rfl (lw_all_tbl q1509) q167 (by exact (⟨by decide, by decide, by decide +kernel⟩ : g_pl ⟨"java/util/Iterator", "next", "()Ljava/lang/Object;"⟩ 0)) gc_J33 g_us ((k_J33_next (by omega) (by have := c1.2; omega) c6 (by omega) (blist_at hcl) (Or.inr ⟨_, rfl⟩) g_us)) (by omega) (Nat.le_of_ble_eq_true rfl) (by omega) (by omega) rfl (Nat.le_of_ble_eq_true rfl) rfl (kA fun r61 h61 n61 t61 e61 => ?_) kN
      obtain ⟨q9, q8, q7⟩ := e61; have q9 := q9.symm; have q8 := q8.symm; have q7 := q7.symm; subst q9; subst q8; subst q7
      refine r_checkcast dX2_crumbs_66 gc_X8 q1648 (Or.inl rfl) e1 ?_
      refine r_astore3 dX2_crumbs_69 ?_
      refine r_iload1 dX2_crumbs_70 ?_
      refine r_aload3 dX2_crumbs_71 ?_
      refine f_X2_139_X8 dX2_crumbs_72 e1 ?_
      refine r_iadd dX2_crumbs_75 (show _ = nI (cts ρ + sm (fun k => ρ (34 + 3 * k)) (c + 1)) by rw [nI_add, Nat.add_assoc]; rfl) ?_
      refine r_istore1 dX2_crumbs_76 ?_
      refine r_goto (tgt := 51) dX2_crumbs_77 (by decide) ?_
      rw [g_up_up]
      exact ih (c + 1) _ _ h1 (by omega) hh
  have loop1 : ∀ (g c : Nat) (v1 : Value) (o3 : Option Value), c + g = ρ 1 → g_G K mX2_crumbs 3 1 4 (muQ h n 2 (nI (cts ρ + ilv ρ))) gN 12 [some (.ref b), some (.int (nI (sm (fun k => ρ (23 + 2 * k)) c))), some (.ref n), o3] [] (g_up h n (g_ob 31 [.int (nI c), v1, .int mb, .ref lb])) (n + 1) := by
    intro g
    induction g with
    | zero =>
      intro c v1 o3 hc
      have : c = ρ 1 := by omega
      subst this
      have b6 : lsT K W lb eb mb (blist (ρ 1) B) (g_up h n (g_ob 31 [.int (nI (ρ 1)), v1, .int mb, .ref lb])) := b4.of (by rw [g_un (by have := b1.2; omega)]) (by rw [g_un (by omega)])
      have c6 : lsT K W ll el mc (blist (ρ 2) G) (g_up h n (g_ob 31 [.int (nI (ρ 1)), v1, .int mb, .ref lb])) := c4.of (by rw [g_un (by have := c1.2; omega)]) (by rw [g_un (by omega)])
      refine r_aload2 dX2_crumbs_12 ?_
      refine r_callF (M' := mJ33_hasNext) _ dX2_crumbs_13 q1644 q1357 q1356 rfl q1376 q1378 q1379 q1377 q1375 rfl (lw_all_tbl q1380) q167 (by exact (⟨by decide, by decide, by decide +kernel⟩ : g_pl ⟨"java/util/Iterator", "hasNext", "()Z"⟩ 0)) gc_J33 g_us ((k_J33_hasNext b6 (by rw [blist_len]; exact Nat.le_refl _) g_us)) (by omega) (Nat.le_of_ble_eq_true rfl) (by omega) (by omega) rfl (Nat.le_of_ble_eq_true rfl) rfl (kI fun r13 h13 n13 e13 => ?_) kN
      obtain ⟨q9, q8, q7⟩ := e13; have q9 := q9.symm; have q8 := q8.symm; have q7 := q7.symm; subst q9; subst q8; subst q7
      refine r_if_eqB (tgt := 41) dX2_crumbs_18 (by decide) (fun c18 => ?_) (fun c18 => absurd c18 (by rw [blist_len]; omega))
      refine r_aload0 dX2_crumbs_41 ?_
      refine f_X2_25_X2 dX2_crumbs_42 (by rw [g_un (by have := k3.2; omega)]; exact k4) ?_
      refine r_callF (M' := mJ4_iterator) _ dX2_crumbs_45 q1642 q1244 q1243 rfl q1245 q1247 q1248 q1246 q414 rfl (lw_all_tbl q1249) q131 (by exact (⟨by decide, by decide, by decide +kernel⟩ : g_pl ⟨"java/util/List", "iterator", "()Ljava/util/Iterator;"⟩ 0)) gc_J4 c6.1 ((k_J4_iterator c6)) (by omega) (Nat.le_of_ble_eq_true rfl) (by omega) (by omega) rfl (Nat.le_of_ble_eq_true rfl) rfl (kA fun r45 h45 n45 t45 e45 => ?_) kN
      obtain ⟨q9, q8, q7⟩ := e45; have q9 := q9.symm; have q8 := q8.symm; have q7 := q7.symm; subst q9; subst q8; subst q7
      refine r_astore2 dX2_crumbs_50 ?_
      exact loop2 (ρ 2) 0 _ _ _ (by omega) (fun q hq => by rw [g_un (by omega)])
    | succ g ih =>
      intro c v1 o3 hc
      have hcl : c < ρ 1 := by omega
      have b6 : lsT K W lb eb mb (blist (ρ 1) B) (g_up h n (g_ob 31 [.int (nI c), v1, .int mb, .ref lb])) := b4.of (by rw [g_un (by have := b1.2; omega)]) (by rw [g_un (by omega)])
      obtain ⟨d1, d2, d3⟩ := b5 c hcl
      have e1 : (g_up (g_up h n (g_ob 31 [.int (nI c), v1, .int mb, .ref lb])) n (g_ob 31 [.int (nI (c + 1)), .int (nI c), .int mb, .ref lb])) (B c) = some (bw ρ c) := by rw [g_un (by have := d2.2; omega), g_un (by have := d2.2; omega), d1]
      refine r_aload2 dX2_crumbs_12 ?_
      refine r_callF (M' := mJ33_hasNext) _ dX2_crumbs_13 q1644 q1357 q1356 rfl q1376 q1378 q1379 q1377 q1375 rfl (lw_all_tbl q1380) q167 (by exact (⟨by decide, by decide, by decide +kernel⟩ : g_pl ⟨"java/util/Iterator", "hasNext", "()Z"⟩ 0)) gc_J33 g_us ((k_J33_hasNext b6 (by rw [blist_len]; omega) g_us)) (by omega) (Nat.le_of_ble_eq_true rfl) (by omega) (by omega) rfl (Nat.le_of_ble_eq_true rfl) rfl (kI fun r13 h13 n13 e13 => ?_) kN
      obtain ⟨q9, q8, q7⟩ := e13; have q9 := q9.symm; have q8 := q8.symm; have q7 := q7.symm; subst q9; subst q8; subst q7
      refine r_if_eqB (tgt := 41) dX2_crumbs_18 (by decide) (fun c18 => absurd c18 (by rw [blist_len]; omega)) (fun c18 => ?_)
      refine r_aload2 dX2_crumbs_21 ?_
      refine r_callF (M' := mJ33_next) _ dX2_crumbs_22 q1646 q1399 q1398 rfl q1505 q1507 q1508 q1506 q1375 rfl (lw_all_tbl q1509) q167 (by exact (⟨by decide, by decide, by decide +kernel⟩ : g_pl ⟨"java/util/Iterator", "next", "()Ljava/lang/Object;"⟩ 0)) gc_J33 g_us ((k_J33_next (by omega) (by have := b1.2; omega) b6 (by omega) (blist_at hcl) (Or.inr ⟨_, rfl⟩) g_us)) (by omega) (Nat.le_of_ble_eq_true rfl) (by omega) (by omega) rfl (Nat.le_of_ble_eq_true rfl) rfl (kA fun r22 h22 n22 t22 e22 => ?_) kN
      obtain ⟨q9, q8, q7⟩ := e22; have q9 := q9.symm; have q8 := q8.symm; have q7 := q7.symm; subst q9; subst q8; subst q7
      refine r_checkcast dX2_crumbs_27 gc_X7 q1647 (Or.inl rfl) e1 ?_
      refine r_astore3 dX2_crumbs_30 ?_
      refine r_iload1 dX2_crumbs_31 ?_
      refine r_aload3 dX2_crumbs_32 ?_
      refine f_X2_88_X7 dX2_crumbs_33 e1 ?_
      refine r_iadd dX2_crumbs_36 (show _ = nI (sm (fun k => ρ (23 + 2 * k)) (c + 1)) by rw [nI_add]; rfl) ?_
      refine r_istore1 dX2_crumbs_37 ?_
      refine r_goto (tgt := 12) dX2_crumbs_38 (by decide) ?_
      rw [g_up_up]
      exact ih (c + 1) _ _ (by omega)
  refine g_Met.of (M := mX2_crumbs) (L := [some (.ref b), none, none, none]) (by decide +kernel) (Nat.le_of_ble_eq_true rfl) rfl ?_
  refine r_iconst (v := nI 0) dX2_crumbs_0 (by decide) ?_
  refine r_istore1 dX2_crumbs_1 ?_
  refine r_aload0 dX2_crumbs_2 ?_
  refine f_X2_21_X2 dX2_crumbs_3 k4 ?_
  refine r_callF (M' := mJ4_iterator) _ dX2_crumbs_6 q1642 q1244 q1243 rfl q1245 q1247 q1248 q1246 q414 rfl (lw_all_tbl q1249) q131 (by exact (⟨by decide, by decide, by decide +kernel⟩ : g_pl ⟨"java/util/List", "iterator", "()Ljava/util/Iterator;"⟩ 0)) gc_J4 b41 ((k_J4_iterator b4)) (by omega) (Nat.le_of_ble_eq_true rfl) (by omega) (by omega) rfl (Nat.le_of_ble_eq_true rfl) rfl (kA fun r6 h6 n6 t6 e6 => ?_) kN
  obtain ⟨q9, q8, q7⟩ := e6; have q9 := q9.symm; have q8 := q8.symm; have q7 := q7.symm; subst q9; subst q8; subst q7
  refine r_astore2 dX2_crumbs_11 ?_
  exact loop1 (ρ 1) 0 _ _ (by omega)
theorem k_setScale2 (w0 : cOK K W) (k : bk K W lo n b ρ α h) (w : wB u ρ) {p : Int32} : g_Met K mX2_setScale 8 4 22 [.ref b, .int p] h n (muP K W lo b h n 2 (eSc ρ p) (nI (ρ 3)) (fup ρ 3 (tN p)) α) (muX W [97, 117] h n (eSc ρ p)) := by
  have wb := w.b
  have k0 := k
  obtain ⟨k1, k2, k3, t, lb, eb, ll, el, k4, k5, k6, k7, k8⟩ := k
  have hv : nB (nI 0 ≤ p ∧ p ≤ nI 4) = nB (bt p 0 4) := nB_iff (bt_iff (by omega) (by omega))
  have hb1 := cts_b w (Nat.le_refl _)
  have hb2 := ilv_b w (Nat.le_refl _)
  have hb3 : cts ρ + ilv ρ < 2147483648 := by unfold cts ilv; omega
  refine g_Met.of (M := mX2_setScale) (L := [some (.ref b), some (.int p), none]) (by decide +kernel) (Nat.le_of_ble_eq_true rfl) rfl ?_
  refine r_iload1 dX2_setScale_0 ?_
  refine r_iconst (v := nI 0) dX2_setScale_1 (by decide) ?_
  refine r_iconst (v := nI 4) dX2_setScale_2 (by decide) ?_
  refine r_callSN (M' := mX1_isBetween) _ dX2_setScale_3 q2151 q2152 rfl (lw_all_tbl q2153) q125 (by exact pl_X1_isBetween)  (k_isBetween1) (by omega) (Nat.le_of_ble_eq_true rfl) (by omega) (by omega) rfl (Nat.le_of_ble_eq_true rfl) rfl (kI fun r3 h3 n3 e3 => ?_) kN
  obtain ⟨q9, q8, q7⟩ := e3; have q9 := q9.symm; have q8 := q8.symm; have q7 := q7.symm; subst q9; subst q8; subst q7
  refine r_bipush (v := nI 97) dX2_setScale_6 (by decide) ?_
  rw [hv]
  refine r_callSN (M' := mX1_demand) _ dX2_setScale_8 q2154 q2155 rfl (lw_all_tbl q2156) q125 (by exact pl_X1_demand)  ((k_demand (p := bt p 0 4) (c := 97) rfl (by decide) w0)) (by omega) (Nat.le_of_ble_eq_true rfl) (by omega) (by omega) rfl (Nat.le_of_ble_eq_true rfl) rfl (kV fun h8 n8 e8 => ?_) (fun q h' n' hx => r_out (by intro x hx; cases hx) (by obtain ⟨z1, rfl, rfl, rfl⟩ := hx; exact ⟨by unfold eSc; rw [if_pos z1]; decide, by unfold eSc; rw [if_pos z1]; exact cf_new⟩))
  obtain ⟨e8, q8, q7⟩ := e8; have q8 := q8.symm; have q7 := q7.symm; subst q8; subst q7
  refine r_aload0 dX2_setScale_11 ?_
  refine r_callV (M' := mX2_crumbs) _ dX2_setScale_12 q2098 q1638 q1639 rfl (lw_all_tbl q1640) q126 (by exact pl_X2_crumbs) gc_X2 k4 ((k_crumbs2 k0 w)) (by omega) (Nat.le_of_ble_eq_true rfl) (by omega) (by omega) rfl (Nat.le_of_ble_eq_true rfl) rfl (kI fun r12 h12 n12 e12 => ?_) kN
  obtain ⟨rfl, z1, z2, z3⟩ := e12
  obtain ⟨i, i1, i2, rfl, i4⟩ := bt_ex e8
  have k01 := (k0.keep z1).mono z2
  refine r_if_neN (tgt := 22) dX2_setScale_15 (by decide) (by omega) (fun c15 => ?_) (fun c15 => ?_)
  · refine r_iconst (v := nI 0) dX2_setScale_22 (by decide) ?_
    refine r_bipush (v := nI 117) dX2_setScale_23 (by decide) ?_
    refine g_st (st' := [.int (nI 117), .int (nB (¬ 0 < cts ρ + ilv ρ))]) (by rw [← nB_f (p := ¬ 0 < cts ρ + ilv ρ) (by omega)]) ?_
    refine r_callSN (M' := mX1_demand) _ dX2_setScale_25 q2154 q2155 rfl (lw_all_tbl q2156) q125 (by exact pl_X1_demand)  ((k_demand (p := ¬ 0 < cts ρ + ilv ρ) (c := 117) rfl (by decide) w0)) (by omega) (Nat.le_of_ble_eq_true rfl) (by omega) (by omega) rfl (Nat.le_of_ble_eq_true rfl) rfl (kV fun h25 n25 e25 => ?_) (fun q h' n' hx => r_out (by intro x hx; cases hx) (by obtain ⟨y1, rfl, rfl, rfl⟩ := hx; have y2 : 0 < cts ρ + ilv ρ := (by omega); exact ⟨by unfold eSc; rw [if_neg (not_not_intro e8), if_pos y2]; decide, by unfold eSc; rw [if_neg (not_not_intro e8), if_pos y2]; exact ⟨z2, by omega, by omega, fun z hz => by rw [g_un (by omega), z1 z hz], g_us⟩⟩))
    obtain ⟨e25, q8, q7⟩ := e25; have q8 := q8.symm; have q7 := q7.symm; subst q8; subst q7
    exact absurd e25 (by omega)
  · refine r_iconst (v := nI 1) dX2_setScale_18 (by decide) ?_
    refine r_goto (tgt := 23) dX2_setScale_19 (by decide) ?_
    refine r_bipush (v := nI 117) dX2_setScale_23 (by decide) ?_
    refine g_st (st' := [.int (nI 117), .int (nB (¬ 0 < cts ρ + ilv ρ))]) (by rw [← nB_t (p := ¬ 0 < cts ρ + ilv ρ) (by omega)]) ?_
    refine r_callSN (M' := mX1_demand) _ dX2_setScale_25 q2154 q2155 rfl (lw_all_tbl q2156) q125 (by exact pl_X1_demand)  ((k_demand (p := ¬ 0 < cts ρ + ilv ρ) (c := 117) rfl (by decide) w0)) (by omega) (Nat.le_of_ble_eq_true rfl) (by omega) (by omega) rfl (Nat.le_of_ble_eq_true rfl) rfl (kV fun h25 n25 e25 => ?_) (fun q h' n' hx => r_out (by intro x hx; cases hx) (by obtain ⟨y1, rfl, rfl, rfl⟩ := hx; have y2 : 0 < cts ρ + ilv ρ := (by omega); exact ⟨by unfold eSc; rw [if_neg (not_not_intro e8), if_pos y2]; decide, by unfold eSc; rw [if_neg (not_not_intro e8), if_pos y2]; exact ⟨z2, by omega, by omega, fun z hz => by rw [g_un (by omega), z1 z hz], g_us⟩⟩))
    obtain ⟨e25, q8, q7⟩ := e25; have q8 := q8.symm; have q7 := q7.symm; subst q8; subst q7
    refine r_aload0 dX2_setScale_28 ?_
    refine f_X2_28_X2 dX2_setScale_29 ((z1 _ k3.2).trans k4) ?_
    refine r_istore2 dX2_setScale_32 ?_
    refine r_aload0 dX2_setScale_33 ?_
    refine r_iload1 dX2_setScale_34 ?_
    refine p_X2_28_X2 dX2_setScale_35 (by omega) ((z1 _ k3.2).trans k4) ?_
    refine r_iload2 dX2_setScale_38 ?_
    exact r_ireturn dX2_setScale_39 rfl rfl (⟨by unfold eSc; rw [if_neg (not_not_intro e8), if_neg e25], rfl, k01.own w (fun q hq => fup_n (by omega)) (fun t' lb' ll' hh => by obtain ⟨rfl, rfl, rfl⟩ := bkO_inj (h := h12) ((z1 _ k3.2).trans k4) hh; show _ = bkO _ _ _ _ (fup ρ 3 (tN (nI i))) α; unfold bkO; rw [fup_s, fup_n (by decide), fup_n (by decide), i4]), fun q hq => by rw [g_un (by have := k3.1; omega), z1 q (by have := k3.1; have := k3.2; omega)], z2, z3⟩)
end
