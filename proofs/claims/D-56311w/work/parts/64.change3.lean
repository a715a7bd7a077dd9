/-! changes of a bakery: a loaf is added, the rounding set, a bowl emptied, a loaf sold -/
set_option maxRecDepth 100000
section
variable {K : g_K} {W : c_W} {lo hi b t l e n u : Nat} {ρ ρ' : Nat → Nat} {α : Nat → Int64} {h h' : g_P}
theorem k_addLoaf2 (w0 : cOK K W) (k : bk K W lo n b ρ α h) (w : wB u ρ) {p p2 : Int32} : g_Met K mX2_addLoaf 9 4 27 [.ref b, .int p, .int p2] h n (muP K W lo b h n 2 (eLo ρ p p2) (nI (ρ 2)) (mkL ρ (tN p) (tN p2)) α) (muX W [97, 115] h n (eLo ρ p p2)) := by
  refine g_Met.facts fun f1 f2 f3 => ?_
  have wb := w.b
  have k0 := k
  obtain ⟨k1, k2, k3, t, lb, eb, ll, el, k4, k5, k6, k7, k8, k9⟩ := k
  have k70 := k7
  obtain ⟨y1, y2, y3⟩ := k7.cell
  obtain ⟨b1, b2, b3, mb, B, b4, b5⟩ := k7
  have b40 := b4
  obtain ⟨b41, br, b42, b43⟩ := b4
  have hv : (nI 1 ≤ p ∧ p ≤ nI 20) ↔ bt p 1 20 := bt_iff (by omega) (by omega)
  have hv2 : (nI 1 ≤ p2 ∧ p2 ≤ nI 60) ↔ bt p2 1 60 := bt_iff (by omega) (by omega)
  refine g_Met.of (M := mX2_addLoaf) (L := [some (.ref b), some (.int p), some (.int p2)]) (by decide +kernel) (Nat.le_of_ble_eq_true rfl) rfl ?_
  refine r_iload1 dX2_addLoaf_0 ?_
  refine r_iconst (v := nI 1) dX2_addLoaf_1 (by decide) ?_
  refine r_bipush (v := nI 20) dX2_addLoaf_2 (by decide) ?_
  refine r_callSN (M' := mX1_isBetween) _ dX2_addLoaf_4 q2151 q2152 rfl (lw_all_tbl q2153) q125 (by exact pl_X1_isBetween)  (k_isBetween1) (by omega) (Nat.le_of_ble_eq_true rfl) (by omega) (by omega) rfl (Nat.le_of_ble_eq_true rfl) rfl (kI fun r4 h4 n4 e4 => ?_) kN
  obtain ⟨q9, q8, q7⟩ := e4; have q9 := q9.symm; have q8 := q8.symm; have q7 := q7.symm; subst q9; subst q8; subst q7
  refine r_if_eqB (tgt := 24) dX2_addLoaf_7 (by decide) (fun c7 => ?_) (fun c7 => ?_)
  · refine r_iconst (v := nI 0) dX2_addLoaf_24 (by decide) ?_
    refine r_bipush (v := nI 97) dX2_addLoaf_25 (by decide) ?_
    refine g_st (st' := [.int (nI 97), .int (nB (bt p 1 20 ∧ bt p2 1 60))]) (by rw [← nB_f (p := bt p 1 20 ∧ bt p2 1 60) (fun z => c7 (hv.mpr z.1))]) ?_
    refine r_callSN (M' := mX1_demand) _ dX2_addLoaf_27 q2154 q2155 rfl (lw_all_tbl q2156) q125 (by exact pl_X1_demand)  ((k_demand (p := bt p 1 20 ∧ bt p2 1 60) (c := 97) rfl (by decide) w0)) (by omega) (Nat.le_of_ble_eq_true rfl) (by omega) (by omega) rfl (Nat.le_of_ble_eq_true rfl) rfl (kV fun h27 n27 e27 => ?_) (fun q h' n' hx => r_out (by intro x hx; cases hx) (by obtain ⟨z1, rfl, rfl, rfl⟩ := hx; exact ⟨by unfold eLo; rw [if_pos z1]; decide, by unfold eLo; rw [if_pos z1]; exact cf_new⟩))
    obtain ⟨e27, q8, q7⟩ := e27; have q8 := q8.symm; have q7 := q7.symm; subst q8; subst q7
    exact absurd (hv.mpr e27.1) c7
  · refine r_iload2 dX2_addLoaf_10 ?_
    refine r_iconst (v := nI 1) dX2_addLoaf_11 (by decide) ?_
    refine r_bipush (v := nI 60) dX2_addLoaf_12 (by decide) ?_
    refine r_callSN (M' := mX1_isBetween) _ dX2_addLoaf_14 q2151 q2152 rfl (lw_all_tbl q2153) q125 (by exact pl_X1_isBetween)  (k_isBetween1) (by omega) (Nat.le_of_ble_eq_true rfl) (by omega) (by omega) rfl (Nat.le_of_ble_eq_true rfl) rfl (kI fun r14 h14 n14 e14 => ?_) kN
    obtain ⟨q9, q8, q7⟩ := e14; have q9 := q9.symm; have q8 := q8.symm; have q7 := q7.symm; subst q9; subst q8; subst q7
    refine r_if_eqB (tgt := 24) dX2_addLoaf_17 (by decide) (fun c17 => ?_) (fun c17 => ?_)
    · refine r_iconst (v := nI 0) dX2_addLoaf_24 (by decide) ?_
      refine r_bipush (v := nI 97) dX2_addLoaf_25 (by decide) ?_
      refine g_st (st' := [.int (nI 97), .int (nB (bt p 1 20 ∧ bt p2 1 60))]) (by rw [← nB_f (p := bt p 1 20 ∧ bt p2 1 60) (fun z => c17 (hv2.mpr z.2))]) ?_
      refine r_callSN (M' := mX1_demand) _ dX2_addLoaf_27 q2154 q2155 rfl (lw_all_tbl q2156) q125 (by exact pl_X1_demand)  ((k_demand (p := bt p 1 20 ∧ bt p2 1 60) (c := 97) rfl (by decide) w0)) (by omega) (Nat.le_of_ble_eq_true rfl) (by omega) (by omega) rfl (Nat.le_of_ble_eq_true rfl) rfl (kV fun h27 n27 e27 => ?_) (fun q h' n' hx => r_out (by intro x hx; cases hx) (by obtain ⟨z1, rfl, rfl, rfl⟩ := hx; exact ⟨by unfold eLo; rw [if_pos z1]; decide, by unfold eLo; rw [if_pos z1]; exact cf_new⟩))
      obtain ⟨e27, q8, q7⟩ := e27; have q8 := q8.symm; have q7 := q7.symm; subst q8; subst q7
      exact absurd (hv2.mpr e27.2) c17
    · refine r_iconst (v := nI 1) dX2_addLoaf_20 (by decide) ?_
      refine r_goto (tgt := 25) dX2_addLoaf_21 (by decide) ?_
      refine r_bipush (v := nI 97) dX2_addLoaf_25 (by decide) ?_
      refine g_st (st' := [.int (nI 97), .int (nB (bt p 1 20 ∧ bt p2 1 60))]) (by rw [← nB_t (p := bt p 1 20 ∧ bt p2 1 60) ⟨hv.mp c7, hv2.mp c17⟩]) ?_
      refine r_callSN (M' := mX1_demand) _ dX2_addLoaf_27 q2154 q2155 rfl (lw_all_tbl q2156) q125 (by exact pl_X1_demand)  ((k_demand (p := bt p 1 20 ∧ bt p2 1 60) (c := 97) rfl (by decide) w0)) (by omega) (Nat.le_of_ble_eq_true rfl) (by omega) (by omega) rfl (Nat.le_of_ble_eq_true rfl) rfl (kV fun h27 n27 e27 => ?_) (fun q h' n' hx => r_out (by intro x hx; cases hx) (by obtain ⟨z1, rfl, rfl, rfl⟩ := hx; exact ⟨by unfold eLo; rw [if_pos z1]; decide, by unfold eLo; rw [if_pos z1]; exact cf_new⟩))
      obtain ⟨e27, q8, q7⟩ := e27; have q8 := q8.symm; have q7 := q7.symm; subst q8; subst q7
      refine r_aload0 dX2_addLoaf_30 ?_
      refine f_X2_25_X2 dX2_addLoaf_31 k4 ?_
      refine r_callF (M' := mJ4_size) _ dX2_addLoaf_34 q1895 q413 q412 rfl q415 q417 q418 q416 q414 rfl (lw_all_tbl q419) q131 (by exact (⟨by decide, by decide, by decide +kernel⟩ : g_pl ⟨"java/util/List", "size", "()I"⟩ 0)) gc_J4 y3 ((k_sizeL k70)) (by omega) (Nat.le_of_ble_eq_true rfl) (by omega) (by omega) rfl (Nat.le_of_ble_eq_true rfl) rfl (kI fun r34 h34 n34 e34 => ?_) kN
      obtain ⟨q9, q8, q7⟩ := e34; have q9 := q9.symm; have q8 := q8.symm; have q7 := q7.symm; subst q9; subst q8; subst q7
      refine r_bipush (v := nI 8) dX2_addLoaf_39 (by decide) ?_
      refine r_icmp_geN (tgt := 48) dX2_addLoaf_41 (by decide) (by omega) (by omega) (fun c41 => ?_) (fun c41 => ?_)
      · refine r_iconst (v := nI 0) dX2_addLoaf_48 (by decide) ?_
        refine r_bipush (v := nI 115) dX2_addLoaf_49 (by decide) ?_
        refine g_st (st' := [.int (nI 115), .int (nB (ρ 2 < 8))]) (by rw [← nB_f (p := ρ 2 < 8) (by omega)]) ?_
        refine r_callSN (M' := mX1_demand) _ dX2_addLoaf_51 q2154 q2155 rfl (lw_all_tbl q2156) q125 (by exact pl_X1_demand)  ((k_demand (p := ρ 2 < 8) (c := 115) rfl (by decide) w0)) (by omega) (Nat.le_of_ble_eq_true rfl) (by omega) (by omega) rfl (Nat.le_of_ble_eq_true rfl) rfl (kV fun h51 n51 e51 => ?_) (fun q h' n' hx => r_out (by intro x hx; cases hx) (by obtain ⟨z1, rfl, rfl, rfl⟩ := hx; have z2 : ρ 2 = 8 := (by omega); exact ⟨by unfold eLo; rw [if_neg (not_not_intro e27), if_pos z2]; decide, by unfold eLo; rw [if_neg (not_not_intro e27), if_pos z2]; exact cf_new⟩))
        obtain ⟨e51, q8, q7⟩ := e51; have q8 := q8.symm; have q7 := q7.symm; subst q8; subst q7
        exact absurd e51 (by omega)
      · refine r_iconst (v := nI 1) dX2_addLoaf_44 (by decide) ?_
        refine r_goto (tgt := 49) dX2_addLoaf_45 (by decide) ?_
        refine r_bipush (v := nI 115) dX2_addLoaf_49 (by decide) ?_
        refine g_st (st' := [.int (nI 115), .int (nB (ρ 2 < 8))]) (by rw [← nB_t (p := ρ 2 < 8) (by omega)]) ?_
        refine r_callSN (M' := mX1_demand) _ dX2_addLoaf_51 q2154 q2155 rfl (lw_all_tbl q2156) q125 (by exact pl_X1_demand)  ((k_demand (p := ρ 2 < 8) (c := 115) rfl (by decide) w0)) (by omega) (Nat.le_of_ble_eq_true rfl) (by omega) (by omega) rfl (Nat.le_of_ble_eq_true rfl) rfl (kV fun h51 n51 e51 => ?_) (fun q h' n' hx => r_out (by intro x hx; cases hx) (by obtain ⟨z1, rfl, rfl, rfl⟩ := hx; have z2 : ρ 2 = 8 := (by omega); exact ⟨by unfold eLo; rw [if_neg (not_not_intro e27), if_pos z2]; decide, by unfold eLo; rw [if_neg (not_not_intro e27), if_pos z2]; exact cf_new⟩))
        obtain ⟨e51, q8, q7⟩ := e51; have q8 := q8.symm; have q7 := q7.symm; subst q8; subst q7
        refine r_aload0 dX2_addLoaf_54 ?_
        refine f_X2_25_X2 dX2_addLoaf_55 k4 ?_
        refine n_X2_98 dX2_addLoaf_58 (by omega) (by omega) ?_
        refine r_dup dX2_addLoaf_61 ?_
        refine r_iload1 dX2_addLoaf_62 ?_
        refine r_iload2 dX2_addLoaf_63 ?_
        refine r_iconst (v := nI 0) dX2_addLoaf_64 (by decide) ?_
        refine r_callI (M' := mX8_init) _ dX2_addLoaf_65 q2438 q2294 rfl rfl rfl (lw_all_tbl q2295) q174 (by exact pl_X8_init)  ((k_X8_init (a := n) f1 g_us)) (by omega) (Nat.le_of_ble_eq_true rfl) (by omega) (by omega) rfl (Nat.le_of_ble_eq_true rfl) rfl (kV fun h65 n65 e65 => ?_) kN
        obtain ⟨q8, q7⟩ := e65; have q8 := q8.symm; have q7 := q7.symm; subst q8; subst q7
        refine r_callF (M' := mJ4_add) _ dX2_addLoaf_68 q2233 q2235 q2234 rfl q2236 q2238 q2239 q2237 q414 rfl (lw_all_tbl q2240) q131 (by exact (⟨by decide, by decide, by decide +kernel⟩ : g_pl ⟨"java/util/List", "add", "(Ljava/lang/Object;)Z"⟩ 1)) gc_J4 (by rw [g_un (Nat.ne_of_lt b1.2), g_un (Nat.ne_of_lt b1.2)]; exact b41) ((k_J4_add w0 (by have := b1.1; omega) (b40.of (by rw [g_un (Nat.ne_of_lt b1.2), g_un (Nat.ne_of_lt b1.2)]) (by rw [g_un (Nat.ne_of_lt b3), g_un (Nat.ne_of_lt b3)])) (by rw [blist_len]; omega) gc_X8 q4052 g_us (by have := b1.2; omega))) (by omega) (Nat.le_of_ble_eq_true rfl) (by omega) (by omega) rfl (Nat.le_of_ble_eq_true rfl) rfl (kI fun r68 h68 n68 e68 => ?_) kN
        obtain ⟨e', z1, z2, z3, z4, z5, z7, z6⟩ := e68
        obtain ⟨i, i1, i2, rfl, i4⟩ := bt_ex e27.1
        obtain ⟨j, j1, j2, rfl, j4⟩ := bt_ex e27.2
        have f9 : ∀ (q k : Nat) (vs : List Value), h q = some (g_ob k vs) → k ≠ 18 → h68 q = h q := fun q k vs q1 q2 => by
          have q3 := f2 _ _ q1
          have q4 : q ≠ ll := fun z => by rw [z, b41] at q1; exact q2 (obj_inj q1).symm
          have q5 : q ≠ el := fun z => by rw [z, b42] at q1; exact obj_arr q1.symm
          have q6 : q ≠ e' := fun z => by rcases z2 with z2 | z2; exact q5 (z.trans z2); omega
          rw [z4 q (by omega) q4 q6, g_un (by omega), g_un (by omega)]
        have z8 := z1.1
        refine r_pop dX2_addLoaf_73 ?_
        refine r_aload0 dX2_addLoaf_74 ?_
        refine f_X2_25_X2 dX2_addLoaf_75 (by rw [f9 _ _ _ k4 (by decide)]; exact k4) ?_
        refine r_callF (M' := mJ4_size) _ dX2_addLoaf_78 q1895 q413 q412 rfl q415 q417 q418 q416 q414 rfl (lw_all_tbl q419) q131 (by exact (⟨by decide, by decide, by decide +kernel⟩ : g_pl ⟨"java/util/List", "size", "()I"⟩ 0)) gc_J4 z8 ((k_J4_size z1)) (by omega) (Nat.le_of_ble_eq_true rfl) (by omega) (by omega) rfl (Nat.le_of_ble_eq_true rfl) rfl (kI fun r78 h78 n78 e78 => ?_) kN
        obtain ⟨q9, q8, q7⟩ := e78; have q9 := q9.symm; have q8 := q8.symm; have q7 := q7.symm; subst q9; subst q8; subst q7
        refine r_iconst (v := nI 1) dX2_addLoaf_83 (by decide) ?_
        refine r_isub dX2_addLoaf_84 (show _ = nI (ρ 2) by rw [show (blist (ρ 2) B ++ [Value.ref n]).length = ρ 2 + 1 by simp [blist_len], pk_sub (by omega)]; rfl) ?_
        refine r_ireturn dX2_addLoaf_85 rfl rfl ⟨by unfold eLo; rw [if_neg (not_not_intro e27), if_neg (by omega)], rfl, ?_, fun q hq => ?_, by omega, by omega⟩
        · exact bk_addL w0 w k1 k3 k4 k5 b1 b2 b5 b41 b42 k6 k8 k9 b3 (by omega) z1 z2 z3 z5 (fun q q1 q2 q3 => by rw [z4 q q1 q2 q3, g_up_up, i4, j4])
        · have := k3.1; have := k3.2; have := b1.1
          rw [z4 q (by omega) (by omega) (by rcases b2 with b2 | b2; have := w0.1.2.1; omega; have := b2.1; omega), g_un (by omega), g_un (by omega)]
theorem k_setRounding2 (w0 : cOK K W) (k : bk K W lo n b ρ α h) (w : wB u ρ) {p : Int32} : g_Met K mX2_setRounding 8 1 7 [.ref b, .int p] h n (muP K W lo b h n 1 (if ruI p then 0 else 1) (nI (ρ 4)) (fup ρ 4 (tN p)) α) (muX W [97] h n (if ruI p then 0 else 1)) := by
  have k0 := k
  obtain ⟨k1, k2, k3, t, lb, eb, ll, el, k4, k5, k6, k7, k8⟩ := k
  refine g_Met.of (M := mX2_setRounding) (L := [some (.ref b), some (.int p), none]) (by decide +kernel) (Nat.le_of_ble_eq_true rfl) rfl ?_
  refine r_iload1 dX2_setRounding_0 ?_
  refine r_callSN (M' := mX1_isRule) _ dX2_setRounding_1 q2505 q2506 rfl (lw_all_tbl q2507) q125 (by exact pl_X1_isRule)  (k_isRule1) (by omega) (Nat.le_of_ble_eq_true rfl) (by omega) (by omega) rfl (Nat.le_of_ble_eq_true rfl) rfl (kI fun r1 h1 n1 e1 => ?_) kN
  obtain ⟨q9, q8, q7⟩ := e1; have q9 := q9.symm; have q8 := q8.symm; have q7 := q7.symm; subst q9; subst q8; subst q7
  refine r_bipush (v := nI 97) dX2_setRounding_4 (by decide) ?_
  refine r_callSN (M' := mX1_demand) _ dX2_setRounding_6 q2154 q2155 rfl (lw_all_tbl q2156) q125 (by exact pl_X1_demand)  ((k_demand (p := ruI p) (c := 97) rfl (by decide) w0)) (by omega) (Nat.le_of_ble_eq_true rfl) (by omega) (by omega) rfl (Nat.le_of_ble_eq_true rfl) rfl (kV fun h6 n6 e6 => ?_) (fun q h' n' hx => r_out (by intro x hx; cases hx) (by obtain ⟨z1, rfl, rfl, rfl⟩ := hx; exact ⟨by rw [if_neg z1]; decide, by rw [if_neg z1]; exact cf_new⟩))
  obtain ⟨i, rfl, i2, i3, i4, i5⟩ : ∃ i, p = nI i ∧ i < 65536 ∧ tN p = i ∧ narrow .char (.int (nI i)) = .int (nI i) ∧ fits .char (.int (nI i)) = true := by
    rcases e6 with rfl | rfl | rfl | rfl
    · exact ⟨100, rfl, by decide, tN_nI (by decide), rfl, by decide⟩
    · exact ⟨117, rfl, by decide, tN_nI (by decide), rfl, by decide⟩
    · exact ⟨104, rfl, by decide, tN_nI (by decide), rfl, by decide⟩
    · exact ⟨101, rfl, by decide, tN_nI (by decide), rfl, by decide⟩
  obtain ⟨e6, q8, q7⟩ := e6; have q8 := q8.symm; have q7 := q7.symm; subst q8; subst q7
  refine r_aload0 dX2_setRounding_9 ?_
  refine f_X2_32_X2 dX2_setRounding_10 k4 ?_
  refine r_istore2 dX2_setRounding_13 ?_
  refine r_aload0 dX2_setRounding_14 ?_
  refine r_iload1 dX2_setRounding_15 ?_
  refine r_i2c dX2_setRounding_16 (i2c_nI i2) ?_
  refine p_X2_32_X2 dX2_setRounding_17 (by omega) k4 ?_ rfl i4 i5
  refine r_iload2 dX2_setRounding_20 ?_
  exact r_ireturn dX2_setRounding_21 rfl rfl (⟨by rw [if_pos e6], rfl, k0.own w (fun q hq => fup_n (by omega)) (fun t' lb' ll' hh => by have e9 := Option.some.inj (k4.symm.trans hh); simp [bkO, g_ob] at e9; obtain ⟨rfl, rfl, rfl⟩ := e9; show _ = bkO b t lb ll (fup ρ 4 (tN (nI i))) α; unfold bkO; rw [fup_s, fup_n (by decide), fup_n (by decide), i3]), fun q hq => g_un (by have := k3.1; omega), Nat.le_refl _, Nat.le_succ _⟩)
end
