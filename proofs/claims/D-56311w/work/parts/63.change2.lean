/-! changes of a bakery: a bowl, a loaf is added -/
set_option maxRecDepth 100000
section
variable {K : g_K} {W : c_W} {lo hi b t l e n u : Nat} {ρ ρ' : Nat → Nat} {α : Nat → Int64} {h h' : g_P}
theorem obj_inj {k k2 : Nat} {vs vs2 : List Value} (e : some (g_ob k vs) = some (g_ob k2 vs2)) : k = k2 := by
  have := Option.some.inj e
  simp [g_ob] at this
  exact this.1
theorem obj_arr {k k2 : Nat} {vs vs2 : List Value} (e : some (g_ob k vs) = some (g_ar k2 vs2)) : False := by
  have := Option.some.inj e
  simp [g_ob, g_ar] at this
theorem bkD_.keepC (k : bkD_ K W lo hi t ρ h) (f : ∀ (q k : Nat) (vs : List Value), h q = some (g_ob k vs) → q < hi → (k = 17 ∨ k = 24 ∨ k = 25 ∨ k = 4) → h' q = h q) : bkD_ K W lo hi t ρ h' := by
  obtain ⟨h1, N, F, mc, nk, h2, h3, h4⟩ := k
  have h20 := h2
  obtain ⟨⟨tt, hm, sN, -⟩, -⟩ := h20
  refine ⟨h1, N, F, mc, nk, h2.keep (f t _ _ hm h1.2 (Or.inl rfl)) fun z hz => ?_, ?_, fun i hi => ⟨(f _ _ _ (h4 i hi).1 (h4 i hi).2.1 (by omega)).trans (h4 i hi).1, (h4 i hi).2⟩⟩
  · obtain ⟨i, hi, ez⟩ := dlist_mem hz
    obtain ⟨L1, L2, e2⟩ := List.append_of_mem hz
    obtain ⟨j, A1, A2, B1, B2, l, r, q, c, -, -, ea, -⟩ := sN.foc (a := z.1) (kk := z.2.1) (v := z.2.2) e2 (k := 0) (A := []) (B := []) (t := tt) ⟨rfl, rfl, rfl, rfl⟩
    exact f _ _ _ ea (by rw [ez]; exact (h4 i hi).2.2.2) (by omega)
  · rcases h3 with h3 | ⟨s, h3, h5, h6⟩
    · exact Or.inl h3
    · exact Or.inr ⟨s, h3, h5, (f s _ _ h6 h5 (by omega)).trans h6⟩
theorem bkB_.keepC (k : bkB_ K W lo hi l e ρ h) (fl : h' l = h l) (fe : h' e = h e) (f : ∀ (q : Nat) (vs : List Value), h q = some (g_ob 5 vs) → q < hi → h' q = h q) : bkB_ K W lo hi l e ρ h' := by
  obtain ⟨h1, h2, h3, m, B, h4, h5⟩ := k
  exact ⟨h1, h2, h3, m, B, h4.of fl fe, fun i hi => ⟨(f _ _ (h5 i hi).1 (h5 i hi).2.1.2).trans (h5 i hi).1, (h5 i hi).2⟩⟩
theorem bkL_.keepC (k : bkL_ K W lo hi l e ρ h) (fl : h' l = h l) (fe : h' e = h e) (f : ∀ (q : Nat) (vs : List Value), h q = some (g_ob 6 vs) → q < hi → h' q = h q) : bkL_ K W lo hi l e ρ h' := by
  obtain ⟨h1, h2, h3, m, B, h4, h5⟩ := k
  exact ⟨h1, h2, h3, m, B, h4.of fl fe, fun i hi => ⟨(f _ _ (h5 i hi).1 (h5 i hi).2.1.2).trans (h5 i hi).1, (h5 i hi).2⟩⟩
theorem blist_snoc {n x : Nat} {B : Nat → Nat} : blist n B ++ [.ref x] = blist (n + 1) (fup B n x) := by
  unfold blist
  rw [List.range_succ, List.map_append]
  congr 1
  · apply List.map_congr_left
    intro i hi
    rw [fup_n (by have := List.mem_range.mp hi; omega)]
  · simp [fup_s]
theorem bkO_ext (ee : ∀ q, 3 ≤ q → q ≤ 5 → ρ' q = ρ q) : bkO b t l e ρ' α = bkO b t l e ρ α := by
  unfold bkO
  rw [ee 3 (by omega) (by omega), ee 4 (by omega) (by omega), ee 5 (by omega) (by omega)]
section
variable {lb eb ll el c n' e' x y : Nat} {m' : Int32} {B : Nat → Nat} {vs vs2 : List Value}
theorem mkB_o {q : Nat} (h1 : q ≠ 1) (h2 : q ≠ 22 + 2 * ρ 1) : mkB ρ c q = ρ q := by unfold mkB; rw [fup_n h1, fup_n h2]
theorem mkL_o {q : Nat} (h1 : q ≠ 2) (h2 : q ≠ 32 + 3 * ρ 2) (h3 : q ≠ 33 + 3 * ρ 2) : mkL ρ x y q = ρ q := by unfold mkL; rw [fup_n h1, fup_n h3, fup_n h2]
theorem bk_addB (w0 : cOK K W) (w : wB u ρ) (k1 : k_b K ≤ lo) (k3 : inR lo n b) (k4 : h b = some (bkO b t lb ll ρ α)) (k5 : bkD_ K W lo n t ρ h) (b1 : inR lo n lb) (b2 : eb = c_E W ∨ inR lo n eb) (b5 : ∀ i, i < ρ 1 → h (B i) = some (bw ρ i) ∧ inR lo n (B i) ∧ ∀ j, j < ρ 1 → B j = B i → j = i) (b41 : h lb = some (g_ob 18 vs)) (b42 : h eb = some (g_ar 5 vs2)) (k7 : bkL_ K W lo n ll el ρ h) (k8 : lb ≠ ll) (k9 : eb = el → eb = c_E W) (hn : eb < n) (h5 : ρ 1 < 5)
    (z1 : lsT K W lb e' m' (blist (ρ 1) B ++ [.ref n]) h') (z2 : e' = eb ∨ e' = n + 1) (z3 : k_b K ≤ e' ∧ e' < n') (z5 : n + 1 ≤ n') (f : ∀ q : Nat, q < n + 1 → q ≠ lb → q ≠ e' → h' q = g_up h n (g_ob 5 [.int (nI c), .int (nI 0)]) q) : bk K W lo n' b (mkB ρ c) α h' := by
  have wb := w.b
  have cE : c_E W < k_b K := w0.1.2.1
  have fo : ∀ (q k : Nat) (vs : List Value), h q = some (g_ob k vs) → q < n → k ≠ 18 → h' q = h q := fun q k vs q1 q2 q3 => by
    have q4 : q ≠ lb := fun z => by rw [z, b41] at q1; exact q3 (obj_inj q1).symm
    have q5 : q ≠ eb := fun z => by rw [z, b42] at q1; exact obj_arr q1.symm
    rw [f q (by omega) q4 (by omega), g_un (by omega)]
  obtain ⟨y1, y2, y3⟩ := k7.cell
  obtain ⟨c1, c2, c3, mm, G, c4, c5⟩ := k7
  have c40 := c4
  obtain ⟨-, r, c42, -⟩ := c40
  have fl : h' ll = h ll := by
    have q5 : ll ≠ eb := fun z => by rw [z, b42] at y3; exact obj_arr y3.symm
    have := c1.2
    rw [f ll (by omega) (Ne.symm k8) (by omega), g_un (by omega)]
  have fe : h' el = h el := by
    have q4 : el ≠ lb := fun z => by rw [z, b41] at c42; exact obj_arr c42
    have q5 : el ≠ e' := fun z => by
      rcases z2 with z2 | z2
      · have := k9 (by omega); omega
      · omega
    rw [f el (by omega) q4 q5, g_un (by omega)]
  have e3 : ∀ q, 3 ≤ q → q ≤ 5 → mkB ρ c q = ρ q := fun q _ _ => mkB_o (by omega) (by omega)
  refine ⟨k1, by have := k3.1; have := k3.2; omega, k3.mono (by omega), t, lb, e', ll, el, ?_, ?_, ?_, ?_, k8, fun z => ?_⟩
  · rw [fo _ _ _ k4 k3.2 (by decide), k4, bkO_ext e3]
  · exact ((k5.ext (mkB_o (by omega) (by omega)) (fun i hi => by unfold fc; rw [mkB_o (by omega) (by omega), mkB_o (by omega) (by omega)])).keepC (fun q k vs q1 q2 q3 => fo q k vs q1 q2 (by omega))).mono (by omega)
  · refine ⟨b1.mono (by omega), ?_, z3.2, m', fup B (ρ 1) n, ?_, fun i hi => ?_⟩
    · rcases z2 with z2 | z2
      · rcases b2 with b2 | b2
        · left; omega
        · right; rw [z2]; exact b2.mono (by omega)
      · right; have := k3.1; have := k3.2; exact ⟨by omega, z3.2⟩
    · rw [show mkB ρ c 1 = ρ 1 + 1 by unfold mkB; rw [fup_s], ← blist_snoc]; exact z1
    · have hi2 : i < ρ 1 + 1 := by rw [show mkB ρ c 1 = ρ 1 + 1 by unfold mkB; rw [fup_s]] at hi; exact hi
      rw [show mkB ρ c 1 = ρ 1 + 1 by unfold mkB; rw [fup_s]]
      by_cases hi3 : i = ρ 1
      · subst hi3
        rw [fup_s]
        refine ⟨?_, ⟨by have := k3.1; have := k3.2; omega, by omega⟩, fun j hj hj2 => ?_⟩
        · rw [f n (by omega) (by have := b1.2; omega) (by omega), g_us]
          unfold bw
          rw [mkB_o (q := 23 + 2 * ρ 1) (by omega) (by omega), w.2.2.2.1 _ h5 (Nat.le_refl _), show mkB ρ c (22 + 2 * ρ 1) = c by unfold mkB; rw [fup_n (by omega), fup_s]]
        · by_cases hj3 : j = ρ 1
          · exact hj3
          · rw [fup_n hj3] at hj2
            have := (b5 j (by omega)).2.1.2
            omega
      · rw [fup_n hi3]
        obtain ⟨d1, d2, d3⟩ := b5 i (by omega)
        refine ⟨?_, d2.mono (by omega), fun j hj hj2 => ?_⟩
        · rw [fo _ _ _ d1 d2.2 (by decide), d1]
          unfold bw
          rw [mkB_o (by omega) (by omega), mkB_o (by omega) (by omega)]
        · by_cases hj3 : j = ρ 1
          · rw [hj3, fup_s] at hj2
            have := d2.2
            omega
          · rw [fup_n hj3] at hj2
            exact d3 j (by omega) hj2
  · exact ((bkL_.ext ⟨c1, c2, c3, mm, G, c4, c5⟩ (mkB_o (by omega) (by omega)) (fun i hi => by unfold lf; rw [mkB_o (by omega) (by omega), mkB_o (by omega) (by omega), mkB_o (by omega) (by omega)])).keepC fl fe (fun q vs q1 q2 => fo q 6 vs q1 q2 (by decide))).mono (by omega)
  · rcases z2 with z2 | z2
    · have := k9 (by omega); omega
    · omega
theorem bk_addL (w0 : cOK K W) (w : wB u ρ) (k1 : k_b K ≤ lo) (k3 : inR lo n b) (k4 : h b = some (bkO b t lb ll ρ α)) (k5 : bkD_ K W lo n t ρ h) (b1 : inR lo n ll) (b2 : el = c_E W ∨ inR lo n el) (b5 : ∀ i, i < ρ 2 → h (B i) = some (lf ρ i) ∧ inR lo n (B i) ∧ ∀ j, j < ρ 2 → B j = B i → j = i) (b41 : h ll = some (g_ob 18 vs)) (b42 : h el = some (g_ar 5 vs2)) (k7 : bkB_ K W lo n lb eb ρ h) (k8 : lb ≠ ll) (k9 : eb = el → eb = c_E W) (hn : el < n) (h5 : ρ 2 < 8)
    (z1 : lsT K W ll e' m' (blist (ρ 2) B ++ [.ref n]) h') (z2 : e' = el ∨ e' = n + 1) (z3 : k_b K ≤ e' ∧ e' < n') (z5 : n + 1 ≤ n') (f : ∀ q : Nat, q < n + 1 → q ≠ ll → q ≠ e' → h' q = g_up h n (g_ob 6 [.int (nI x), .int (nI y), .int (nI 0)]) q) : bk K W lo n' b (mkL ρ x y) α h' := by
  have wb := w.b
  have cE : c_E W < k_b K := w0.1.2.1
  have fo : ∀ (q k : Nat) (vs : List Value), h q = some (g_ob k vs) → q < n → k ≠ 18 → h' q = h q := fun q k vs q1 q2 q3 => by
    have q4 : q ≠ ll := fun z => by rw [z, b41] at q1; exact q3 (obj_inj q1).symm
    have q5 : q ≠ el := fun z => by rw [z, b42] at q1; exact obj_arr q1.symm
    rw [f q (by omega) q4 (by omega), g_un (by omega)]
  obtain ⟨y1, y2, y3⟩ := k7.cell
  obtain ⟨c1, c2, c3, mm, G, c4, c5⟩ := k7
  have c40 := c4
  obtain ⟨-, r, c42, -⟩ := c40
  have fl : h' lb = h lb := by
    have q5 : lb ≠ el := fun z => by rw [z, b42] at y3; exact obj_arr y3.symm
    have := c1.2
    rw [f lb (by omega) k8 (by omega), g_un (by omega)]
  have fe : h' eb = h eb := by
    have q4 : eb ≠ ll := fun z => by rw [z, b41] at c42; exact obj_arr c42
    have q5 : eb ≠ e' := fun z => by
      rcases z2 with z2 | z2
      · have := k9 (by omega); omega
      · omega
    rw [f eb (by omega) q4 q5, g_un (by omega)]
  have e3 : ∀ q, 3 ≤ q → q ≤ 5 → mkL ρ x y q = ρ q := fun q _ _ => mkL_o (by omega) (by omega) (by omega)
  have e2 : mkL ρ x y 2 = ρ 2 + 1 := by unfold mkL; rw [fup_s]
  refine ⟨k1, by have := k3.1; have := k3.2; omega, k3.mono (by omega), t, lb, eb, ll, e', ?_, ?_, ?_, ?_, k8, fun z => ?_⟩
  · rw [fo _ _ _ k4 k3.2 (by decide), k4, bkO_ext e3]
  · exact ((k5.ext (mkL_o (by omega) (by omega) (by omega)) (fun i hi => by unfold fc; rw [mkL_o (by omega) (by omega) (by omega), mkL_o (by omega) (by omega) (by omega)])).keepC (fun q k vs q1 q2 q3 => fo q k vs q1 q2 (by omega))).mono (by omega)
  · exact ((bkB_.ext ⟨c1, c2, c3, mm, G, c4, c5⟩ (mkL_o (by omega) (by omega) (by omega)) (fun i hi => by unfold bw; rw [mkL_o (by omega) (by omega) (by omega), mkL_o (by omega) (by omega) (by omega)])).keepC fl fe (fun q vs q1 q2 => fo q 5 vs q1 q2 (by decide))).mono (by omega)
  · refine ⟨b1.mono (by omega), ?_, z3.2, m', fup B (ρ 2) n, ?_, fun i hi => ?_⟩
    · rcases z2 with z2 | z2
      · rcases b2 with b2 | b2
        · left; omega
        · right; rw [z2]; exact b2.mono (by omega)
      · right; have := k3.1; have := k3.2; exact ⟨by omega, z3.2⟩
    · rw [e2, ← blist_snoc]; exact z1
    · have hi2 : i < ρ 2 + 1 := by rw [e2] at hi; exact hi
      rw [e2]
      by_cases hi3 : i = ρ 2
      · subst hi3
        rw [fup_s]
        refine ⟨?_, ⟨by have := k3.1; have := k3.2; omega, by omega⟩, fun j hj hj2 => ?_⟩
        · rw [f n (by omega) (by have := b1.2; omega) (by omega), g_us]
          unfold lf
          rw [mkL_o (q := 34 + 3 * ρ 2) (by omega) (by omega) (by omega), w.2.2.2.2.2 _ h5 (Nat.le_refl _), show mkL ρ x y (32 + 3 * ρ 2) = x by unfold mkL; rw [fup_n (by omega), fup_n (by omega), fup_s], show mkL ρ x y (33 + 3 * ρ 2) = y by unfold mkL; rw [fup_n (by omega), fup_s]]
        · by_cases hj3 : j = ρ 2
          · exact hj3
          · rw [fup_n hj3] at hj2
            have := (b5 j (by omega)).2.1.2
            omega
      · rw [fup_n hi3]
        obtain ⟨d1, d2, d3⟩ := b5 i (by omega)
        refine ⟨?_, d2.mono (by omega), fun j hj hj2 => ?_⟩
        · rw [fo _ _ _ d1 d2.2 (by decide), d1]
          unfold lf
          rw [mkL_o (by omega) (by omega) (by omega), mkL_o (by omega) (by omega) (by omega), mkL_o (by omega) (by omega) (by omega)]
        · by_cases hj3 : j = ρ 2
          · rw [hj3, fup_s] at hj2
            have := d2.2
            omega
          · rw [fup_n hj3] at hj2
            exact d3 j (by omega) hj2
  · rcases z2 with z2 | z2
    · rcases b2 with q | q
      · exact k9 (by omega)
      · exact k9 (by omega)
    · omega
end
theorem k_addBowl2 (w0 : cOK K W) (k : bk K W lo n b ρ α h) (w : wB u ρ) {p : Int32} : g_Met K mX2_addBowl 9 4 26 [.ref b, .int p] h n (muP K W lo b h n 2 (eBo ρ p) (nI (ρ 1)) (mkB ρ (tN p)) α) (muX W [97, 115] h n (eBo ρ p)) := by
  refine g_Met.facts fun f1 f2 f3 => ?_
  have wb := w.b
  have k0 := k
  obtain ⟨k1, k2, k3, t, lb, eb, ll, el, k4, k5, k6, k7, k8, k9⟩ := k
  have k60 := k6
  obtain ⟨y1, y2, y3⟩ := k6.cell
  obtain ⟨b1, b2, b3, mb, B, b4, b5⟩ := k6
  have b40 := b4
  obtain ⟨b41, br, b42, b43⟩ := b4
  have hv : nB (nI 1 ≤ p ∧ p ≤ nI 9999) = nB (bt p 1 9999) := nB_iff (bt_iff (by omega) (by omega))
  refine g_Met.of (M := mX2_addBowl) (L := [some (.ref b), some (.int p)]) (by decide +kernel) (Nat.le_of_ble_eq_true rfl) rfl ?_
  refine r_iload1 dX2_addBowl_0 ?_
  refine r_iconst (v := nI 1) dX2_addBowl_1 (by decide) ?_
  refine r_sipush (v := nI 9999) dX2_addBowl_2 (by decide) ?_
  refine r_callSN (M' := mX1_isBetween) _ dX2_addBowl_5 q2151 q2152 rfl (lw_all_tbl q2153) q125 (by exact pl_X1_isBetween)  (k_isBetween1) (by omega) (Nat.le_of_ble_eq_true rfl) (by omega) (by omega) rfl (Nat.le_of_ble_eq_true rfl) rfl (kI fun r5 h5 n5 e5 => ?_) kN
  obtain ⟨q9, q8, q7⟩ := e5; have q9 := q9.symm; have q8 := q8.symm; have q7 := q7.symm; subst q9; subst q8; subst q7
  refine r_bipush (v := nI 97) dX2_addBowl_8 (by decide) ?_
  rw [hv]
  refine r_callSN (M' := mX1_demand) _ dX2_addBowl_10 q2154 q2155 rfl (lw_all_tbl q2156) q125 (by exact pl_X1_demand)  ((k_demand (p := bt p 1 9999) (c := 97) rfl (by decide) w0)) (by omega) (Nat.le_of_ble_eq_true rfl) (by omega) (by omega) rfl (Nat.le_of_ble_eq_true rfl) rfl (kV fun h10 n10 e10 => ?_) (fun q h' n' hx => r_out (by intro x hx; cases hx) (by obtain ⟨z1, rfl, rfl, rfl⟩ := hx; exact ⟨by unfold eBo; rw [if_pos z1]; decide, by unfold eBo; rw [if_pos z1]; exact cf_new⟩))
  obtain ⟨e10, q8, q7⟩ := e10; have q8 := q8.symm; have q7 := q7.symm; subst q8; subst q7
  refine r_aload0 dX2_addBowl_13 ?_
  refine f_X2_21_X2 dX2_addBowl_14 k4 ?_
  refine r_callF (M' := mJ4_size) _ dX2_addBowl_17 q1895 q413 q412 rfl q415 q417 q418 q416 q414 rfl (lw_all_tbl q419) q131 (by exact (⟨by decide, by decide, by decide +kernel⟩ : g_pl ⟨"java/util/List", "size", "()I"⟩ 0)) gc_J4 y3 ((k_sizeB k60)) (by omega) (Nat.le_of_ble_eq_true rfl) (by omega) (by omega) rfl (Nat.le_of_ble_eq_true rfl) rfl (kI fun r17 h17 n17 e17 => ?_) kN
  obtain ⟨q9, q8, q7⟩ := e17; have q9 := q9.symm; have q8 := q8.symm; have q7 := q7.symm; subst q9; subst q8; subst q7
  refine r_iconst (v := nI 5) dX2_addBowl_22 (by decide) ?_
  refine r_icmp_geN (tgt := 30) dX2_addBowl_23 (by decide) (by omega) (by omega) (fun c23 => ?_) (fun c23 => ?_)
  · refine r_iconst (v := nI 0) dX2_addBowl_30 (by decide) ?_
    refine r_bipush (v := nI 115) dX2_addBowl_31 (by decide) ?_
    refine g_st (st' := [.int (nI 115), .int (nB (ρ 1 < 5))]) (by rw [← nB_f (p := ρ 1 < 5) (by omega)]) ?_
    refine r_callSN (M' := mX1_demand) _ dX2_addBowl_33 q2154 q2155 rfl (lw_all_tbl q2156) q125 (by exact pl_X1_demand)  ((k_demand (p := ρ 1 < 5) (c := 115) rfl (by decide) w0)) (by omega) (Nat.le_of_ble_eq_true rfl) (by omega) (by omega) rfl (Nat.le_of_ble_eq_true rfl) rfl (kV fun h33 n33 e33 => ?_) (fun q h' n' hx => r_out (by intro x hx; cases hx) (by obtain ⟨z1, rfl, rfl, rfl⟩ := hx; have z2 : ρ 1 = 5 := (by omega); exact ⟨by unfold eBo; rw [if_neg (not_not_intro e10), if_pos z2]; decide, by unfold eBo; rw [if_neg (not_not_intro e10), if_pos z2]; exact cf_new⟩))
    obtain ⟨e33, q8, q7⟩ := e33; have q8 := q8.symm; have q7 := q7.symm; subst q8; subst q7
    exact absurd e33 (by omega)
  · refine r_iconst (v := nI 1) dX2_addBowl_26 (by decide) ?_
    refine r_goto (tgt := 31) dX2_addBowl_27 (by decide) ?_
    refine r_bipush (v := nI 115) dX2_addBowl_31 (by decide) ?_
    refine g_st (st' := [.int (nI 115), .int (nB (ρ 1 < 5))]) (by rw [← nB_t (p := ρ 1 < 5) (by omega)]) ?_
    refine r_callSN (M' := mX1_demand) _ dX2_addBowl_33 q2154 q2155 rfl (lw_all_tbl q2156) q125 (by exact pl_X1_demand)  ((k_demand (p := ρ 1 < 5) (c := 115) rfl (by decide) w0)) (by omega) (Nat.le_of_ble_eq_true rfl) (by omega) (by omega) rfl (Nat.le_of_ble_eq_true rfl) rfl (kV fun h33 n33 e33 => ?_) (fun q h' n' hx => r_out (by intro x hx; cases hx) (by obtain ⟨z1, rfl, rfl, rfl⟩ := hx; have z2 : ρ 1 = 5 := (by omega); exact ⟨by unfold eBo; rw [if_neg (not_not_intro e10), if_pos z2]; decide, by unfold eBo; rw [if_neg (not_not_intro e10), if_pos z2]; exact cf_new⟩))
    obtain ⟨e33, q8, q7⟩ := e33; have q8 := q8.symm; have q7 := q7.symm; subst q8; subst q7
    refine r_aload0 dX2_addBowl_36 ?_
    refine f_X2_21_X2 dX2_addBowl_37 k4 ?_
    refine n_X2_83 dX2_addBowl_40 (by omega) (by omega) ?_
    refine r_dup dX2_addBowl_43 ?_
    refine r_iload1 dX2_addBowl_44 ?_
    refine r_iconst (v := nI 0) dX2_addBowl_45 (by decide) ?_
    refine r_callI (M' := mX7_init) _ dX2_addBowl_46 q2217 q2218 rfl rfl rfl (lw_all_tbl q2219) q172 (by exact pl_X7_init)  ((k_X7_init (a := n) f1 g_us)) (by omega) (Nat.le_of_ble_eq_true rfl) (by omega) (by omega) rfl (Nat.le_of_ble_eq_true rfl) rfl (kV fun h46 n46 e46 => ?_) kN
    obtain ⟨q8, q7⟩ := e46; have q8 := q8.symm; have q7 := q7.symm; subst q8; subst q7
    refine r_callF (M' := mJ4_add) _ dX2_addBowl_49 q2233 q2235 q2234 rfl q2236 q2238 q2239 q2237 q414 rfl (lw_all_tbl q2240) q131 (by exact (⟨by decide, by decide, by decide +kernel⟩ : g_pl ⟨"java/util/List", "add", "(Ljava/lang/Object;)Z"⟩ 1)) gc_J4 (by rw [g_un (Nat.ne_of_lt b1.2), g_un (Nat.ne_of_lt b1.2)]; exact b41) ((k_J4_add w0 (by have := b1.1; omega) (b40.of (by rw [g_un (Nat.ne_of_lt b1.2), g_un (Nat.ne_of_lt b1.2)]) (by rw [g_un (Nat.ne_of_lt b3), g_un (Nat.ne_of_lt b3)])) (by rw [blist_len]; omega) gc_X7 q4050 g_us (by have := b1.2; omega))) (by omega) (Nat.le_of_ble_eq_true rfl) (by omega) (by omega) rfl (Nat.le_of_ble_eq_true rfl) rfl (kI fun r49 h49 n49 e49 => ?_) kN
    obtain ⟨e', z1, z2, z3, z4, z5, z7, z6⟩ := e49
    obtain ⟨i, i1, i2, rfl, i4⟩ := bt_ex e10
    have f9 : ∀ (q k : Nat) (vs : List Value), h q = some (g_ob k vs) → k ≠ 18 → h49 q = h q := fun q k vs q1 q2 => by
      have q3 := f2 _ _ q1
      have q4 : q ≠ lb := fun z => by rw [z, b41] at q1; exact q2 (obj_inj q1).symm
      have q5 : q ≠ eb := fun z => by rw [z, b42] at q1; exact obj_arr q1.symm
      have q6 : q ≠ e' := fun z => by rcases z2 with z2 | z2; exact q5 (z.trans z2); omega
      rw [z4 q (by omega) q4 q6, g_un (by omega), g_un (by omega)]
    have z8 := z1.1
    refine r_pop dX2_addBowl_54 ?_
    refine r_aload0 dX2_addBowl_55 ?_
    refine f_X2_21_X2 dX2_addBowl_56 (by rw [f9 _ _ _ k4 (by decide)]; exact k4) ?_
    refine r_callF (M' := mJ4_size) _ dX2_addBowl_59 q1895 q413 q412 rfl q415 q417 q418 q416 q414 rfl (lw_all_tbl q419) q131 (by exact (⟨by decide, by decide, by decide +kernel⟩ : g_pl ⟨"java/util/List", "size", "()I"⟩ 0)) gc_J4 z8 ((k_J4_size z1)) (by omega) (Nat.le_of_ble_eq_true rfl) (by omega) (by omega) rfl (Nat.le_of_ble_eq_true rfl) rfl (kI fun r59 h59 n59 e59 => ?_) kN
    obtain ⟨q9, q8, q7⟩ := e59; have q9 := q9.symm; have q8 := q8.symm; have q7 := q7.symm; subst q9; subst q8; subst q7
    refine r_iconst (v := nI 1) dX2_addBowl_64 (by decide) ?_
    refine r_isub dX2_addBowl_65 (show _ = nI (ρ 1) by rw [show (blist (ρ 1) B ++ [Value.ref n]).length = ρ 1 + 1 by simp [blist_len], pk_sub (by omega)]; rfl) ?_
    refine r_ireturn dX2_addBowl_66 rfl rfl ⟨by unfold eBo; rw [if_neg (not_not_intro e10), if_neg (by omega)], rfl, ?_, fun q hq => ?_, by omega, by omega⟩
    · exact bk_addB w0 w k1 k3 k4 k5 b1 b2 b5 b41 b42 k7 k8 k9 b3 (by omega) z1 z2 z3 z5 (fun q q1 q2 q3 => by rw [z4 q q1 q2 q3, g_up_up, i4])
    · have := k3.1; have := k3.2; have := b1.1
      rw [z4 q (by omega) (by omega) (by rcases b2 with b2 | b2; have := w0.1.2.1; omega; have := b2.1; omega), g_un (by omega), g_un (by omega)]
end
