/-! a bakery copied -/
set_option maxRecDepth 100000
section
variable {K : g_K} {W : c_W} {lo hi b t l e n u : Nat} {ρ ρ' : Nat → Nat} {α : Nat → Int64} {h h' : g_P}
section
variable {lb eb ll el c n' e' x y : Nat} {m' : Int32} {B : Nat → Nat} {vs vs2 : List Value}
theorem bk_pushB (w0 : cOK K W) (h06 : ρ 0 ≤ 6) (e1 : ρ' 1 = ρ 1 + 1) (eo : ∀ q, q ≠ 1 → q ≠ 22 + 2 * ρ 1 → q ≠ 23 + 2 * ρ 1 → ρ' q = ρ q) (k1 : k_b K ≤ lo) (k3 : inR lo n b) (k4 : h b = some (bkO b t lb ll ρ α)) (k5 : bkD_ K W lo n t ρ h) (b1 : inR lo n lb) (b2 : eb = c_E W ∨ inR lo n eb) (b5 : ∀ i, i < ρ 1 → h (B i) = some (bw ρ i) ∧ inR lo n (B i) ∧ ∀ j, j < ρ 1 → B j = B i → j = i) (b41 : h lb = some (g_ob 18 vs)) (b42 : h eb = some (g_ar 5 vs2)) (k7 : bkL_ K W lo n ll el ρ h) (k8 : lb ≠ ll) (k9 : eb = el → eb = c_E W) (hn : eb < n) (h5 : ρ 1 < 5)
    (z1 : lsT K W lb e' m' (blist (ρ 1) B ++ [.ref n]) h') (z2 : e' = eb ∨ e' = n + 1) (z3 : k_b K ≤ e' ∧ e' < n') (z5 : n + 1 ≤ n') (f : ∀ q : Nat, q < n + 1 → q ≠ lb → q ≠ e' → h' q = g_up h n (bw ρ' (ρ 1)) q) : bk K W lo n' b (ρ') α h' := by
  have cE : c_E W < k_b K := w0.1.2.1
  have fo : ∀ (q k : Nat) (vs : List Value), h q = some (g_ob k vs) → q < n → k ≠ 18 → h' q = h q := fun q k vs q1 q2 q3 => by
    have q4 : q ≠ lb := fun z => by rw [z, b41] at q1; exact q3 (obj_inj q1).symm
    have q5 : q ≠ eb := fun z => by rw [z, b42] at q1; exact obj_arr q1.symm
    rw [f q (by omega) q4 (by omega), g_un (by omega)]
  obtain ⟨y1, y2, y3⟩ := k7.cell
  obtain ⟨c1, c2, c3, mm, G, c4, c5⟩ := k7
  have c40 := c4
  obtain ⟨-, r, c42, -⟩ := c40
  have fl : h' ll = h ll := by
    have q5 : ll ≠ eb := fun z => by rw [z, b42] at y3; exact obj_arr y3.symm
    have := c1.2
    rw [f ll (by omega) (Ne.symm k8) (by omega), g_un (by omega)]
  have fe : h' el = h el := by
    have q4 : el ≠ lb := fun z => by rw [z, b41] at c42; exact obj_arr c42
    have q5 : el ≠ e' := fun z => by
      rcases z2 with z2 | z2
      · have := k9 (by omega); omega
      · omega
    rw [f el (by omega) q4 q5, g_un (by omega)]
  have e3 : ∀ q, 3 ≤ q → q ≤ 5 → ρ' q = ρ q := fun q _ _ => eo _ (by omega) (by omega) (by omega)
  refine ⟨k1, by have := k3.1; have := k3.2; omega, k3.mono (by omega), t, lb, e', ll, el, ?_, ?_, ?_, ?_, k8, fun z => ?_⟩
  · rw [fo _ _ _ k4 k3.2 (by decide), k4, bkO_ext e3]
  · exact ((k5.ext (eo _ (by omega) (by omega) (by omega)) (fun i hi => by unfold fc; rw [eo _ (by omega) (by omega) (by omega), eo _ (by omega) (by omega) (by omega)])).keepC (fun q k vs q1 q2 q3 => fo q k vs q1 q2 (by omega))).mono (by omega)
  · refine ⟨b1.mono (by omega), ?_, z3.2, m', fup B (ρ 1) n, ?_, fun i hi => ?_⟩
    · rcases z2 with z2 | z2
      · rcases b2 with b2 | b2
        · left; omega
        · right; rw [z2]; exact b2.mono (by omega)
      · right; have := k3.1; have := k3.2; exact ⟨by omega, z3.2⟩
    · rw [e1, ← blist_snoc]; exact z1
    · have hi2 : i < ρ 1 + 1 := by rw [e1] at hi; exact hi
      rw [e1]
      by_cases hi3 : i = ρ 1
      · subst hi3
        rw [fup_s]
        refine ⟨?_, ⟨by have := k3.1; have := k3.2; omega, by omega⟩, fun j hj hj2 => ?_⟩
        · rw [f n (by omega) (by have := b1.2; omega) (by omega), g_us]
        · by_cases hj3 : j = ρ 1
          · exact hj3
          · rw [fup_n hj3] at hj2
            have := (b5 j (by omega)).2.1.2
            omega
      · rw [fup_n hi3]
        obtain ⟨d1, d2, d3⟩ := b5 i (by omega)
        refine ⟨?_, d2.mono (by omega), fun j hj hj2 => ?_⟩
        · rw [fo _ _ _ d1 d2.2 (by decide), d1]
          unfold bw
          rw [eo _ (by omega) (by omega) (by omega), eo _ (by omega) (by omega) (by omega)]
        · by_cases hj3 : j = ρ 1
          · rw [hj3, fup_s] at hj2
            have := d2.2
            omega
          · rw [fup_n hj3] at hj2
            exact d3 j (by omega) hj2
  · exact ((bkL_.ext ⟨c1, c2, c3, mm, G, c4, c5⟩ (eo _ (by omega) (by omega) (by omega)) (fun i hi => by unfold lf; rw [eo _ (by omega) (by omega) (by omega), eo _ (by omega) (by omega) (by omega), eo _ (by omega) (by omega) (by omega)])).keepC fl fe (fun q vs q1 q2 => fo q 6 vs q1 q2 (by decide))).mono (by omega)
  · rcases z2 with z2 | z2
    · have := k9 (by omega); omega
    · omega
theorem bk_pushL (w0 : cOK K W) (h06 : ρ 0 ≤ 6) (h15 : ρ 1 ≤ 5) (e2 : ρ' 2 = ρ 2 + 1) (eo : ∀ q, q ≠ 2 → q ≠ 32 + 3 * ρ 2 → q ≠ 33 + 3 * ρ 2 → q ≠ 34 + 3 * ρ 2 → ρ' q = ρ q) (k1 : k_b K ≤ lo) (k3 : inR lo n b) (k4 : h b = some (bkO b t lb ll ρ α)) (k5 : bkD_ K W lo n t ρ h) (b1 : inR lo n ll) (b2 : el = c_E W ∨ inR lo n el) (b5 : ∀ i, i < ρ 2 → h (B i) = some (lf ρ i) ∧ inR lo n (B i) ∧ ∀ j, j < ρ 2 → B j = B i → j = i) (b41 : h ll = some (g_ob 18 vs)) (b42 : h el = some (g_ar 5 vs2)) (k7 : bkB_ K W lo n lb eb ρ h) (k8 : lb ≠ ll) (k9 : eb = el → eb = c_E W) (hn : el < n) (h5 : ρ 2 < 8)
    (z1 : lsT K W ll e' m' (blist (ρ 2) B ++ [.ref n]) h') (z2 : e' = el ∨ e' = n + 1) (z3 : k_b K ≤ e' ∧ e' < n') (z5 : n + 1 ≤ n') (f : ∀ q : Nat, q < n + 1 → q ≠ ll → q ≠ e' → h' q = g_up h n (lf ρ' (ρ 2)) q) : bk K W lo n' b (ρ') α h' := by
  have cE : c_E W < k_b K := w0.1.2.1
  have fo : ∀ (q k : Nat) (vs : List Value), h q = some (g_ob k vs) → q < n → k ≠ 18 → h' q = h q := fun q k vs q1 q2 q3 => by
    have q4 : q ≠ ll := fun z => by rw [z, b41] at q1; exact q3 (obj_inj q1).symm
    have q5 : q ≠ el := fun z => by rw [z, b42] at q1; exact obj_arr q1.symm
    rw [f q (by omega) q4 (by omega), g_un (by omega)]
  obtain ⟨y1, y2, y3⟩ := k7.cell
  obtain ⟨c1, c2, c3, mm, G, c4, c5⟩ := k7
  have c40 := c4
  obtain ⟨-, r, c42, -⟩ := c40
  have fl : h' lb = h lb := by
    have q5 : lb ≠ el := fun z => by rw [z, b42] at y3; exact obj_arr y3.symm
    have := c1.2
    rw [f lb (by omega) k8 (by omega), g_un (by omega)]
  have fe : h' eb = h eb := by
    have q4 : eb ≠ ll := fun z => by rw [z, b41] at c42; exact obj_arr c42
    have q5 : eb ≠ e' := fun z => by
      rcases z2 with z2 | z2
      · have := k9 (by omega); omega
      · omega
    rw [f eb (by omega) q4 q5, g_un (by omega)]
  have e3 : ∀ q, 3 ≤ q → q ≤ 5 → ρ' q = ρ q := fun q _ _ => eo _ (by omega) (by omega) (by omega) (by omega)
  refine ⟨k1, by have := k3.1; have := k3.2; omega, k3.mono (by omega), t, lb, eb, ll, e', ?_, ?_, ?_, ?_, k8, fun z => ?_⟩
  · rw [fo _ _ _ k4 k3.2 (by decide), k4, bkO_ext e3]
  · exact ((k5.ext (eo _ (by omega) (by omega) (by omega) (by omega)) (fun i hi => by unfold fc; rw [eo _ (by omega) (by omega) (by omega) (by omega), eo _ (by omega) (by omega) (by omega) (by omega)])).keepC (fun q k vs q1 q2 q3 => fo q k vs q1 q2 (by omega))).mono (by omega)
  · exact ((bkB_.ext ⟨c1, c2, c3, mm, G, c4, c5⟩ (eo _ (by omega) (by omega) (by omega) (by omega)) (fun i hi => by unfold bw; rw [eo _ (by omega) (by omega) (by omega) (by omega), eo _ (by omega) (by omega) (by omega) (by omega)])).keepC fl fe (fun q vs q1 q2 => fo q 5 vs q1 q2 (by decide))).mono (by omega)
  · refine ⟨b1.mono (by omega), ?_, z3.2, m', fup B (ρ 2) n, ?_, fun i hi => ?_⟩
    · rcases z2 with z2 | z2
      · rcases b2 with b2 | b2
        · left; omega
        · right; rw [z2]; exact b2.mono (by omega)
      · right; have := k3.1; have := k3.2; exact ⟨by omega, z3.2⟩
    · rw [e2, ← blist_snoc]; exact z1
    · have hi2 : i < ρ 2 + 1 := by rw [e2] at hi; exact hi
      rw [e2]
      by_cases hi3 : i = ρ 2
      · subst hi3
        rw [fup_s]
        refine ⟨?_, ⟨by have := k3.1; have := k3.2; omega, by omega⟩, fun j hj hj2 => ?_⟩
        · rw [f n (by omega) (by have := b1.2; omega) (by omega), g_us]
        · by_cases hj3 : j = ρ 2
          · exact hj3
          · rw [fup_n hj3] at hj2
            have := (b5 j (by omega)).2.1.2
            omega
      · rw [fup_n hi3]
        obtain ⟨d1, d2, d3⟩ := b5 i (by omega)
        refine ⟨?_, d2.mono (by omega), fun j hj hj2 => ?_⟩
        · rw [fo _ _ _ d1 d2.2 (by decide), d1]
          unfold lf
          rw [eo _ (by omega) (by omega) (by omega) (by omega), eo _ (by omega) (by omega) (by omega) (by omega), eo _ (by omega) (by omega) (by omega) (by omega)]
        · by_cases hj3 : j = ρ 2
          · rw [hj3, fup_s] at hj2
            have := d2.2
            omega
          · rw [fup_n hj3] at hj2
            exact d3 j (by omega) hj2
  · rcases z2 with z2 | z2
    · rcases b2 with q | q
      · exact k9 (by omega)
      · exact k9 (by omega)
    · omega
end
variable {lb eb ll el hi' it n1 n2 : Nat} {h1 h2 : g_P}
theorem bk_pushD (k1 : k_b K ≤ lo) (k2 : k_b K ≤ hi) (k3 : inR lo hi b) (k4 : h b = some (bkO b t lb ll ρ α)) (k6 : bkB_ K W lo hi lb eb ρ h) (k7 : bkL_ K W lo hi ll el ρ h) (k8 : lb ≠ ll ∧ (eb = el → eb = c_E W)) (hh : hi ≤ hi') (fO : ∀ (q k : Nat) (vs : List Value), h q = some (g_ob k vs) → q < hi → k ≠ 24 → k ≠ 17 → h' q = h q) (fA : ∀ (q k : Nat) (vs : List Value), h q = some (g_ar k vs) → q < hi → h' q = h q) (eρ : ∀ q, q ≠ 0 → (q < 10 ∨ 22 ≤ q) → ρ' q = ρ q) (k5 : bkD_ K W lo hi' t ρ' h') : bk K W lo hi' b ρ' α h' := by
  obtain ⟨v1, v2, c1, c2, c3, c4⟩ := k6.cells
  obtain ⟨v3, v4, c5, c6, c7, c8⟩ := k7.cells
  refine ⟨k1, by omega, k3.mono hh, t, lb, eb, ll, el, ?_, k5, ?_, ?_, k8⟩
  · rw [fO _ _ _ k4 k3.2 (by decide) (by decide), k4, bkO_ext (fun q _ _ => eρ q (by omega) (by omega))]
  · exact ((k6.ext (eρ 1 (by decide) (by decide)) (fun j hj => by unfold bw; rw [eρ _ (by omega) (by omega), eρ _ (by omega) (by omega)])).keepC (fO _ _ _ c1 c3 (by decide) (by decide)) (fA _ _ _ c2 c4) (fun q vs q1 q2 => fO q 5 vs q1 q2 (by decide) (by decide))).mono hh
  · exact ((k7.ext (eρ 2 (by decide) (by decide)) (fun j hj => by unfold lf; rw [eρ _ (by omega) (by omega), eρ _ (by omega) (by omega), eρ _ (by omega) (by omega)])).keepC (fO _ _ _ c5 c7 (by decide) (by decide)) (fA _ _ _ c6 c8) (fun q vs q1 q2 => fO q 6 vs q1 q2 (by decide) (by decide))).mono hh
theorem bk.ext (k : bk K W lo hi b ρ α h) (e5 : ∀ q, q ≤ 5 → ρ' q = ρ q) (eD : ∀ i, i < ρ 0 → fc ρ' i = fc ρ i) (eB : ∀ i, i < ρ 1 → bw ρ' i = bw ρ i) (eL : ∀ i, i < ρ 2 → lf ρ' i = lf ρ i) : bk K W lo hi b ρ' α h := by
  obtain ⟨k1, k2, k3, t, lb, eb, ll, el, k4, k5, k6, k7, k8⟩ := k
  exact ⟨k1, k2, k3, t, lb, eb, ll, el, by rw [k4, bkO_ext (ρ' := ρ') (fun q _ hq => e5 q hq)], k5.ext (e5 0 (by omega)) eD, k6.ext (e5 1 (by omega)) eB, k7.ext (e5 2 (by omega)) eL, k8⟩
/-- an iterator's cell is no part of a bakery -/
theorem bk.keepI {kk : Nat} {vs : List Value} (k : bk K W lo hi b ρ α h) (hc : h it = some (g_ob kk vs)) (hk : kk = 26 ∨ kk = 31) (e : ∀ q : Nat, q ≠ it → h' q = h q) : bk K W lo hi b ρ α h' := by
  have fO : ∀ (q k : Nat) (ws : List Value), h q = some (g_ob k ws) → k ≠ 26 → k ≠ 31 → h' q = h q := fun q k ws q1 q2 q3 => e q fun z => by
    rw [z, hc] at q1
    have := obj_inj q1
    omega
  have fA : ∀ (q k : Nat) (ws : List Value), h q = some (g_ar k ws) → h' q = h q := fun q k ws q1 => e q fun z => by
    rw [z, hc] at q1
    exact obj_arr q1
  obtain ⟨k1, k2, k3, t, lb, eb, ll, el, k4, k5, k6, k7, k8⟩ := k
  obtain ⟨v1, v2, c1, c2, c3, c4⟩ := k6.cells
  obtain ⟨v3, v4, c5, c6, c7, c8⟩ := k7.cells
  exact ⟨k1, k2, k3, t, lb, eb, ll, el, (fO _ _ _ k4 (by decide) (by decide)).trans k4, k5.keepC (fun q k ws q1 _ q3 => fO q k ws q1 (by omega) (by omega)), k6.keepC (fO _ _ _ c1 (by decide) (by decide)) (fA _ _ _ c2) (fun q ws q1 _ => fO q 5 ws q1 (by decide) (by decide)), k7.keepC (fO _ _ _ c5 (by decide) (by decide)) (fA _ _ _ c6) (fun q ws q1 _ => fO q 6 ws q1 (by decide) (by decide)), k8⟩
/-- the row of a copy with a doughs, b bowls and c loaves -/
def cR (ρ : Nat → Nat) (a b c : Nat) : Nat → Nat := fun q => if q = 0 then a else if q = 1 then b else if q = 2 then c else if q = 3 then 2 else if q = 4 then 104 else if q = 5 then 2 else ρ q
theorem cR_o {a b c q : Nat} (h : 6 ≤ q) : cR ρ a b c q = ρ q := by
  unfold cR
  rw [if_neg (by omega), if_neg (by omega), if_neg (by omega), if_neg (by omega), if_neg (by omega), if_neg (by omega)]
theorem cR_0 {a b c : Nat} : cR ρ a b c 0 = a := rfl
theorem cR_1 {a b c : Nat} : cR ρ a b c 1 = b := rfl
theorem cR_2 {a b c : Nat} : cR ρ a b c 2 = c := rfl
theorem cR_e {a b c a' b' c' q : Nat} (h0 : q = 0 → a = a') (h1 : q = 1 → b = b') (h2 : q = 2 → c = c') : cR ρ a b c q = cR ρ a' b' c' q := by
  unfold cR
  by_cases q0 : q = 0
  · rw [if_pos q0, if_pos q0, h0 q0]
  rw [if_neg q0, if_neg q0]
  by_cases q1 : q = 1
  · rw [if_pos q1, if_pos q1, h1 q1]
  rw [if_neg q1, if_neg q1]
  by_cases q2 : q = 2
  · rw [if_pos q2, if_pos q2, h2 q2]
  rw [if_neg q2, if_neg q2]
theorem fc_cR {a b c i : Nat} : fc (cR ρ a b c) i = fc ρ i := by
  unfold fc
  rw [cR_o (by omega), cR_o (by omega)]
theorem bw_cR {a b c i : Nat} : bw (cR ρ a b c) i = bw ρ i := by
  unfold bw
  rw [cR_o (by omega), cR_o (by omega)]
theorem lf_cR {a b c i : Nat} : lf (cR ρ a b c) i = lf ρ i := by
  unfold lf
  rw [cR_o (by omega), cR_o (by omega), cR_o (by omega)]
theorem rul_ch {k : Nat} (h : rul k) : narrow .char (.int (nI k)) = .int (nI k) ∧ fits .char (.int (nI k)) = true := by
  rcases h with rfl | rfl | rfl | rfl
  · exact ⟨rfl, by decide⟩
  · exact ⟨rfl, by decide⟩
  · exact ⟨rfl, by decide⟩
  · exact ⟨rfl, by decide⟩
/-- the row of a new bakery -/
def r0N : Nat → Nat := fup (fup (fup (fun _ => 0) 3 2) 4 104) 5 2
theorem k_X2_init {v0 v1 v2 : Value} {v3 v4 v5 : Int32} (w0 : cOK K W) (hb : k_b K ≤ b) (hbn : b < n) (ho : h b = some (g_ob 1 [v0, v1, v2, .int v3, .int v4, .int v5, .long (lN 0), .long (lN 0), .long (lN 0), .long (lN 0), .long (lN 0)])) : g_Met K mX2_init 6 3 15 [.ref b] h n (gV fun h' n' => bk K W b n' b r0N (fun _ => lN 0) h' ∧ (∀ q : Nat, q < n → q ≠ b → h' q = h q) ∧ n' = n + 3) gN := by
  refine g_Met.facts fun f1 f2 f3 => ?_
  have cE := w0.1.2.1
  refine g_Met.of (M := mX2_init) (L := [some (.ref b)]) (by decide +kernel) (Nat.le_of_ble_eq_true rfl) rfl ?_
  refine r_aload0 dX2_init_0 ?_
  refine r_objInit dX2_init_1 q207 q200 q201 rfl (by omega) (Nat.le_of_ble_eq_true rfl) ?_
  refine r_aload0 dX2_init_4 ?_
  refine n_X2_9 dX2_init_5 (by omega) (by omega) ?_
  refine r_dup dX2_init_8 ?_
  refine r_callI (M' := mJ1_init) _ dX2_init_9 q210 q211 rfl rfl rfl (lw_all_tbl q212) q128 (by exact pl_J1_init)  ((k_J1_init (by omega) g_us)) (by omega) (Nat.le_of_ble_eq_true rfl) (by omega) (by omega) rfl (Nat.le_of_ble_eq_true rfl) rfl (kV fun h9 n9 e9 => ?_) kN
  obtain ⟨z1, z2, rfl⟩ := e9
  refine p_X2_12_X2 dX2_init_12 (by omega) ((z2 _ (by omega)).trans ((g_un (by omega)).trans ho)) ?_
  refine r_aload0 dX2_init_15 ?_
  refine n_X2_18 dX2_init_16 (by omega) (by omega) ?_
  refine r_dup dX2_init_19 ?_
  refine r_callI (M' := mJ4_init) _ dX2_init_20 q244 q245 rfl rfl rfl (lw_all_tbl q246) q131 (by exact pl_J4_init)  ((k_J4_init w0 (by omega) g_us)) (by omega) (Nat.le_of_ble_eq_true rfl) (by omega) (by omega) rfl (Nat.le_of_ble_eq_true rfl) rfl (kV fun h20 n20 e20 => ?_) kN
  obtain ⟨y1, y2, rfl⟩ := e20
  refine p_X2_21_X2 dX2_init_23 (by omega) ((y2 _ (by omega)).trans ((g_un (by omega)).trans g_us)) ?_
  refine r_aload0 dX2_init_26 ?_
  refine n_X2_18 dX2_init_27 (by omega) (by omega) ?_
  refine r_dup dX2_init_30 ?_
  refine r_callI (M' := mJ4_init) _ dX2_init_31 q244 q245 rfl rfl rfl (lw_all_tbl q246) q131 (by exact pl_J4_init)  ((k_J4_init w0 (by omega) g_us)) (by omega) (Nat.le_of_ble_eq_true rfl) (by omega) (by omega) rfl (Nat.le_of_ble_eq_true rfl) rfl (kV fun h31 n31 e31 => ?_) kN
  obtain ⟨x1, x2, rfl⟩ := e31
  refine p_X2_25_X2 dX2_init_34 (by omega) ((x2 _ (by omega)).trans ((g_un (by omega)).trans g_us)) ?_
  refine r_aload0 dX2_init_37 ?_
  refine r_iconst (v := nI 2) dX2_init_38 (by decide) ?_
  refine p_X2_28_X2 dX2_init_39 (by omega) g_us ?_
  refine r_aload0 dX2_init_42 ?_
  refine r_bipush (v := nI 104) dX2_init_43 (by decide) ?_
  refine p_X2_32_X2 dX2_init_45 (by omega) g_us ?_ rfl rfl (by decide)
  refine r_aload0 dX2_init_48 ?_
  refine r_iconst (v := nI 2) dX2_init_49 (by decide) ?_
  refine p_X2_36_X2 dX2_init_50 (by omega) g_us ?_
  refine r_return dX2_init_53 rfl ⟨⟨hb, by omega, ⟨Nat.le_refl _, by omega⟩, n, n + 1, c_E W, n + 2, c_E W, ?_, ⟨⟨by omega, by omega⟩, fun _ => 0, fun _ => 0, nI 0, .null, z1.keep ?_ (fun z hz => by cases hz), Or.inl rfl, fun i hi => absurd hi (Nat.not_lt_zero i)⟩, ⟨⟨by omega, by omega⟩, Or.inl rfl, by omega, nI 0, fun _ => 0, y1.of ?_ ?_, fun i hi => absurd hi (Nat.not_lt_zero i)⟩, ⟨⟨by omega, by omega⟩, Or.inl rfl, by omega, nI 0, fun _ => 0, x1.of ?_ ?_, fun i hi => absurd hi (Nat.not_lt_zero i)⟩, by omega, fun _ => rfl⟩, fun q h1 h2 => ?_, rfl⟩
  · rw [g_us]
    unfold bkO
    rw [show lN 0 + lN 27720 * lN 0 = lN 0 by decide +kernel]
    rfl
  · repeat (first | rw [g_un (by omega)] | rw [x2 _ (by omega)] | rw [y2 _ (by omega)])
  · repeat (first | rw [g_un (by omega)] | rw [x2 _ (by omega)])
  · repeat (first | rw [g_un (by omega)] | rw [x2 _ (by omega)])
  · repeat (first | rw [g_un (by omega)])
  · repeat (first | rw [g_un (by omega)])
  · repeat (first | rw [g_un (by omega)] | rw [x2 _ (by omega)] | rw [y2 _ (by omega)] | rw [z2 _ (by omega)])
theorem k_copy2 (w0 : cOK K W) (k : bk K W lo n b ρ α h) (w : wB u ρ) : g_Met K mX2_copy 8 42 260 [.ref b] h n (gA fun r h' n' => r = .ref n ∧ bk K W n n' n ρ α h' ∧ stab n h n' h' ∧ n' ≤ n + 42) gN := by
  refine g_Met.facts fun f1 f2 f3 => ?_
  have wb := w.b
  have k0 := k
  obtain ⟨k1, k2, k3, t, lb, eb, ll, el, k4, k5, k6, k7, k8⟩ := k
  obtain ⟨N, F, mc, dm, dN, dR⟩ := k5.dM
  have dt : k_b K ≤ t := Nat.le_trans k1 dR.1
  obtain ⟨b1, b2, b3, mb, B, b4, b5⟩ := id k6
  obtain ⟨l1, l2, l3, ml, G, l4, l5⟩ := id k7
  -- the rest
  have fin : ∀ (h1 : g_P) (n1 : Nat) (o2 o3 : Option Value), stab n h n1 h1 → n1 ≤ n + 42 → bk K W n n1 n (cR ρ (ρ 0) (ρ 1) (ρ 2)) (fun _ => lN 0) h1 → g_G K mX2_copy 8 0 0 (gA fun r h' n' => r = .ref n ∧ bk K W n n' n ρ α h' ∧ stab n h n' h' ∧ n' ≤ n + 42) gN 175 [some (.ref b), some (.ref n), o2, o3] [] h1 n1 := by
    intro h1 n1 o2 o3 st hn kc
    obtain ⟨c1, c2, c3, tc, lbc, ebc, llc, elc, c4, c5, c6, c7, c8⟩ := kc
    have k44 := st.ob k4 (by decide)
    have bn : b ≠ n := by have := k3.2; omega
    have wr := w.b
    have kfin : bk K W n n1 n ρ α (g_up h1 n (bkO n tc lbc llc ρ α)) := by
      have fo : ∀ (q kk : Nat) (vs : List Value), h1 q = some (g_ob kk vs) → kk ≠ 1 → g_up h1 n (bkO n tc lbc llc ρ α) q = h1 q := fun q kk vs q1 q2 => g_un fun z => by
        rw [z, c4] at q1
        exact q2 (obj_inj q1).symm
      have fA : ∀ (q kk : Nat) (vs : List Value), h1 q = some (g_ar kk vs) → g_up h1 n (bkO n tc lbc llc ρ α) q = h1 q := fun q kk vs q1 => g_un fun z => by
        rw [z, c4] at q1
        exact obj_arr q1
      obtain ⟨v1, v2, d1, d2, d3, d4⟩ := c6.cells
      obtain ⟨v3, v4, d5, d6, d7, d8⟩ := c7.cells
      exact ⟨c1, c2, c3, tc, lbc, ebc, llc, elc, g_us, (c5.ext (ρ' := ρ) cR_0.symm (fun i hi => fc_cR.symm)).keepC (fun q kk ws q1 _ q3 => fo q kk ws q1 (by omega)), (c6.ext (ρ' := ρ) cR_1.symm (fun i hi => bw_cR.symm)).keepC (fo _ _ _ d1 (by decide)) (fA _ _ _ d2) (fun q ws q1 _ => fo q 5 ws q1 (by decide)), (c7.ext (ρ' := ρ) cR_2.symm (fun i hi => lf_cR.symm)).keepC (fo _ _ _ d5 (by decide)) (fA _ _ _ d6) (fun q ws q1 _ => fo q 6 ws q1 (by decide)), c8⟩
    refine r_aload1 dX2_copy_175 ?_
    refine r_aload0 dX2_copy_176 ?_
    refine f_X2_28_X2 dX2_copy_177 k44 ?_
    refine p_X2_28_X2 dX2_copy_180 (by omega) c4 ?_
    refine r_aload1 dX2_copy_183 ?_
    refine r_aload0 dX2_copy_184 ?_
    refine f_X2_32_X2 dX2_copy_185 (by rw [g_un bn]; exact k44) ?_
    refine p_X2_32_X2 dX2_copy_188 (by omega) g_us ?_ rfl (rul_ch wr.2.2.2.2.2.1).1 (rul_ch wr.2.2.2.2.2.1).2
    refine r_aload1 dX2_copy_191 ?_
    refine r_aload0 dX2_copy_192 ?_
    refine f_X2_36_X2 dX2_copy_193 (by (repeat rw [g_un bn]); exact k44) ?_
    refine p_X2_36_X2 dX2_copy_196 (by omega) g_us ?_
    refine r_aload1 dX2_copy_199 ?_
    refine r_aload0 dX2_copy_200 ?_
    refine f_X2_104_X2 dX2_copy_201 (by (repeat rw [g_un bn]); exact k44) ?_
    refine p_X2_104_X2 dX2_copy_204 (by omega) g_us ?_
    refine r_aload1 dX2_copy_207 ?_
    refine r_aload0 dX2_copy_208 ?_
    refine f_X2_108_X2 dX2_copy_209 (by (repeat rw [g_un bn]); exact k44) ?_
    refine p_X2_108_X2 dX2_copy_212 (by omega) g_us ?_
    refine r_aload1 dX2_copy_215 ?_
    refine r_aload0 dX2_copy_216 ?_
    refine f_X2_111_X2 dX2_copy_217 (by (repeat rw [g_un bn]); exact k44) ?_
    refine p_X2_111_X2 dX2_copy_220 (by omega) g_us ?_
    refine r_aload1 dX2_copy_223 ?_
    refine r_aload0 dX2_copy_224 ?_
    refine f_X2_114_X2 dX2_copy_225 (by (repeat rw [g_un bn]); exact k44) ?_
    refine p_X2_114_X2 dX2_copy_228 (by omega) g_us ?_
    refine r_aload1 dX2_copy_231 ?_
    refine r_aload0 dX2_copy_232 ?_
    refine f_X2_117_X2 dX2_copy_233 (by (repeat rw [g_un bn]); exact k44) ?_
    refine p_X2_117_X2 dX2_copy_236 (by omega) g_us ?_
    repeat rw [g_up_up]
    refine r_aload1 dX2_copy_239 ?_
    exact r_areturn dX2_copy_240 rfl (Or.inl ⟨_, rfl⟩) (Or.inr ⟨_, rfl⟩) (⟨rfl, kfin, st.updO f2 (Nat.le_refl _) (fun q hq => g_un (by omega)) (fun q vs q1 => g_un fun z => by rw [z, c4] at q1; exact absurd (obj_inj q1) (by decide)), hn⟩)
  have loop3 : ∀ (g j : Nat) (v9 : Value) (o3 : Option Value) (h1 : g_P) (n1 it : Nat), j + g = ρ 2 → g_c1 o3 → stab n h n1 h1 → n1 + 2 * g ≤ n + 42 → n ≤ it → it < n1 → h1 it = some (g_ob 31 [.int (nI j), v9, .int ml, .ref ll]) → bk K W n n1 n (cR ρ (ρ 0) (ρ 1) j) (fun _ => lN 0) h1 → g_G K mX2_copy 8 (2 * g) (13 * g) (gA fun r h' n' => r = .ref n ∧ bk K W n n' n ρ α h' ∧ stab n h n' h' ∧ n' ≤ n + 42) gN 139 [some (.ref b), some (.ref n), some (.ref it), o3] [] h1 n1 := by
    intro g
    induction g with
    | zero =>
      intro j v9 o3 h1 n1 it hj c3 st hn b1 b2 hi kc
      have : j = ρ 2 := by omega
      subst this
      have lT := l4.stab st
      refine r_aload2 dX2_copy_139 ?_
      refine r_callF (M' := mJ33_hasNext) _ dX2_copy_140 q1644 q1357 q1356 rfl q1376 q1378 q1379 q1377 q1375 rfl (lw_all_tbl q1380) q167 (by exact (⟨by decide, by decide, by decide +kernel⟩ : g_pl ⟨"java/util/Iterator", "hasNext", "()Z"⟩ 0)) gc_J33 hi ((k_J33_hasNext lT (by rw [blist_len]; exact Nat.le_refl _) hi)) (by omega) (Nat.le_of_ble_eq_true rfl) (by omega) (by omega) rfl (Nat.le_of_ble_eq_true rfl) rfl (kI fun r140 h140 n140 e140 => ?_) kN
      obtain ⟨q9, q8, q7⟩ := e140; have q9 := q9.symm; have q8 := q8.symm; have q7 := q7.symm; subst q9; subst q8; subst q7
      refine r_if_eqB (tgt := 175) dX2_copy_145 (by decide) (fun c145 => ?_) (fun c145 => absurd c145 (by rw [blist_len]; omega))
      exact fin _ _ _ _ st (by omega) kc
    | succ g ih =>
      intro j v9 o3 h1 n1 it hj c3 st hn b1 b2 hi kc
      have hjl : j < ρ 2 := by omega
      refine g_facts fun g1 g2 g3 => ?_
      have lT := l4.stab st
      have gj := f2 _ _ (l5 j hjl).1
      have l1' := l1.2
      have e1 : (g_up h1 it (g_ob 31 [.int (nI (j + 1)), .int (nI j), .int ml, .ref ll])) (G j) = some (lf ρ j) := by
        rw [g_un (by omega)]
        exact st.ob (l5 j hjl).1 (by decide)
      have kc1 := kc.keepI (h' := g_up h1 it (g_ob 31 [.int (nI (j + 1)), .int (nI j), .int ml, .ref ll])) hi (Or.inr rfl) (fun q hq => g_un hq)
      obtain ⟨c1, c2, c30, tc, lbc, ebc, llc, elc, c4, c5, c6, c7, c8, c9⟩ := kc1
      obtain ⟨d1, d2, d3, m2, B2, d4, d5⟩ := id c7
      have d40 := d4
      obtain ⟨d41, dr, d42, d43⟩ := d40
      have d11 := d1.1
      have d12 := d1.2
      refine r_aload2 dX2_copy_139 ?_
      refine r_callF (M' := mJ33_hasNext) _ dX2_copy_140 q1644 q1357 q1356 rfl q1376 q1378 q1379 q1377 q1375 rfl (lw_all_tbl q1380) q167 (by exact (⟨by decide, by decide, by decide +kernel⟩ : g_pl ⟨"java/util/Iterator", "hasNext", "()Z"⟩ 0)) gc_J33 hi ((k_J33_hasNext lT (by rw [blist_len]; omega) hi)) (by omega) (Nat.le_of_ble_eq_true rfl) (by omega) (by omega) rfl (Nat.le_of_ble_eq_true rfl) rfl (kI fun r140 h140 n140 e140 => ?_) kN
      obtain ⟨q9, q8, q7⟩ := e140; have q9 := q9.symm; have q8 := q8.symm; have q7 := q7.symm; subst q9; subst q8; subst q7
      refine r_if_eqB (tgt := 175) dX2_copy_145 (by decide) (fun c145 => absurd c145 (by rw [blist_len]; omega)) (fun c145 => ?_)
      refine r_aload2 dX2_copy_148 ?_
      refine r_callF (M' := mJ33_next) _ dX2_copy_149 q1646 q1399 q1398 rfl q1505 q1507 q1508 q1506 q1375 rfl (lw_all_tbl q1509) q167 (by exact (⟨by decide, by decide, by decide +kernel⟩ : g_pl ⟨"java/util/Iterator", "next", "()Ljava/lang/Object;"⟩ 0)) gc_J33 hi ((k_J33_next (by omega) (by omega) lT (by omega) (blist_at hjl) (Or.inr ⟨_, rfl⟩) hi)) (by omega) (Nat.le_of_ble_eq_true rfl) (by omega) (by omega) rfl (Nat.le_of_ble_eq_true rfl) rfl (kA fun r149 h149 n149 t149 e149 => ?_) kN
      obtain ⟨q9, q8, q7⟩ := e149; have q9 := q9.symm; have q8 := q8.symm; have q7 := q7.symm; subst q9; subst q8; subst q7
      refine r_checkcast dX2_copy_154 gc_X8 q1648 (Or.inl rfl) e1 ?_
      refine r_astore3 dX2_copy_157 ?_
      refine r_aload1 dX2_copy_158 ?_
      refine f_X2_25_X2 dX2_copy_159 c4 ?_
      refine r_aload3 dX2_copy_162 ?_
      refine r_callV (M' := mX8_copy) _ dX2_copy_163 q2287 q2288 q2289 rfl (lw_all_tbl q2290) q174 (by exact pl_X8_copy) gc_X8 e1 ((k_X8_copy e1)) (by omega) (Nat.le_of_ble_eq_true rfl) (by omega) (by omega) rfl (Nat.le_of_ble_eq_true rfl) rfl (kA fun r163 h163 n163 t163 e163 => ?_) kN
      obtain ⟨q9, q8, q7⟩ := e163; have q9 := q9.symm; have q8 := q8.symm; have q7 := q7.symm; subst q9; subst q8; subst q7
      refine r_callF (M' := mJ4_add) _ dX2_copy_166 q2233 q2235 q2234 rfl q2236 q2238 q2239 q2237 q414 rfl (lw_all_tbl q2240) q131 (by exact (⟨by decide, by decide, by decide +kernel⟩ : g_pl ⟨"java/util/List", "add", "(Ljava/lang/Object;)Z"⟩ 1)) gc_J4 (by rw [g_un (by omega)]; exact d41) ((k_J4_add w0 (by omega) (d4.of (g_un (by omega)) (g_un (by omega))) (by rw [blist_len, cR_2]; omega) gc_X8 q4052 g_us (by omega))) (by omega) (Nat.le_of_ble_eq_true rfl) (by omega) (by omega) rfl (Nat.le_of_ble_eq_true rfl) rfl (kI fun r166 h166 n166 e166 => ?_) kN
      obtain ⟨e', z1, z2, z3, z4, z5, z7, z6⟩ := e166
      have kn := bk_pushL (ρ := cR ρ (ρ 0) (ρ 1) j) (ρ' := cR ρ (ρ 0) (ρ 1) (j + 1)) (h' := h166) (n' := n166) (n := n1) w0 (by rw [cR_0]; omega) (by rw [cR_1]; omega) rfl (fun q q1 q2 q3 q4 => cR_e (fun _ => rfl) (fun _ => rfl) (fun z => absurd z q1)) c1 c30 c4 c5 d1 d2 d5 d41 d42 c6 c8 c9 d3 (by rw [cR_2]; omega) z1 z2 z3 z5 (fun q q1 q2 q3 => (z4 q q1 q2 q3).trans (congrFun (congrArg _ lf_cR.symm) q))
      have en : ∀ q : Nat, q < n → q ≠ e' := fun q hq => by
        rcases z2 with z2 | z2
        · rcases d2 with d2 | d2
          · have := w0.1.2.1; omega
          · have := d2.1; omega
        · omega
      have st2 : stab n h n166 h166 := st.updO f2 (by omega) (fun q hq => by rw [z4 q (by omega) (by omega) (en q hq), g_un (by omega), g_un (by omega)]) (fun q vs q1 => by
        have q2 := g2 _ _ q1
        have q3 : q ≠ it := fun z => by rw [z, hi] at q1; exact absurd (obj_inj q1) (by decide)
        have q10 : (g_up h1 it (g_ob 31 [.int (nI (j + 1)), .int (nI j), .int ml, .ref ll])) q = some (g_ob 25 vs) := by rw [g_un q3]; exact q1
        have q4 : q ≠ llc := fun z => by rw [z, d41] at q10; exact absurd (obj_inj q10) (by decide)
        have q5 : q ≠ e' := fun z => by
          rcases z2 with z2 | z2
          · rw [z, z2, d42] at q10; exact obj_arr q10.symm
          · omega
        rw [z4 q (by omega) q4 q5, g_un (by omega), g_un q3])
      have hi2 : h166 it = some (g_ob 31 [.int (nI (j + 1)), .int (nI j), .int ml, .ref ll]) := by
        have q10 : (g_up h1 it (g_ob 31 [.int (nI (j + 1)), .int (nI j), .int ml, .ref ll])) it = some (g_ob 31 [.int (nI (j + 1)), .int (nI j), .int ml, .ref ll]) := g_us
        have q4 : it ≠ llc := fun z => by have q11 := d41; rw [← z, g_us] at q11; exact absurd (obj_inj q11) (by decide)
        have q5 : it ≠ e' := fun z => by
          rcases z2 with z2 | z2
          · have q11 := d42; rw [← z2, ← z, g_us] at q11; exact obj_arr q11
          · omega
        rw [z4 it (by omega) q4 q5, g_un (by omega), g_us]
      refine r_pop dX2_copy_171 ?_
      refine r_goto (tgt := 139) dX2_copy_172 (by decide) ?_
      refine g_bud (bc' := 2 * g) (bs' := 13 * g) (by omega) (by omega) (Nat.le_refl _) (ih (j + 1) _ _ _ _ it (by omega) g_c1r st2 (by omega) b1 (by omega) hi2 kn)
  have loop2 : ∀ (g j : Nat) (v9 : Value) (o3 : Option Value) (h1 : g_P) (n1 it : Nat), j + g = ρ 1 → g_c1 o3 → stab n h n1 h1 → n1 + 2 * g ≤ n + 25 → n ≤ it → it < n1 → h1 it = some (g_ob 31 [.int (nI j), v9, .int mb, .ref lb]) → bk K W n n1 n (cR ρ (ρ 0) j 0) (fun _ => lN 0) h1 → g_G K mX2_copy 8 (2 * g + 17) (12 * g + 110) (gA fun r h' n' => r = .ref n ∧ bk K W n n' n ρ α h' ∧ stab n h n' h' ∧ n' ≤ n + 42) gN 82 [some (.ref b), some (.ref n), some (.ref it), o3] [] h1 n1 := by
    intro g
    induction g with
    | zero =>
      intro j v9 o3 h1 n1 it hj c3 st hn q1 q2 hi kc
      have : j = ρ 1 := by omega
      subst this
      refine g_facts fun g1 g2 g3 => ?_
      have lT := b4.stab st
      have lT2 := l4.stab st
      have k44 := st.ob k4 (by decide)
      refine r_aload2 dX2_copy_82 ?_
      refine r_callF (M' := mJ33_hasNext) _ dX2_copy_83 q1644 q1357 q1356 rfl q1376 q1378 q1379 q1377 q1375 rfl (lw_all_tbl q1380) q167 (by exact (⟨by decide, by decide, by decide +kernel⟩ : g_pl ⟨"java/util/Iterator", "hasNext", "()Z"⟩ 0)) gc_J33 hi ((k_J33_hasNext lT (by rw [blist_len]; exact Nat.le_refl _) hi)) (by omega) (Nat.le_of_ble_eq_true rfl) (by omega) (by omega) rfl (Nat.le_of_ble_eq_true rfl) rfl (kI fun r83 h83 n83 e83 => ?_) kN
      obtain ⟨q9, q8, q7⟩ := e83; have q9 := q9.symm; have q8 := q8.symm; have q7 := q7.symm; subst q9; subst q8; subst q7
      refine r_if_eqB (tgt := 129) dX2_copy_88 (by decide) (fun c88 => ?_) (fun c88 => absurd c88 (by rw [blist_len]; omega))
      refine r_aload0 dX2_copy_129 ?_
      refine f_X2_25_X2 dX2_copy_130 k44 ?_
      refine r_callF (M' := mJ4_iterator) _ dX2_copy_133 q1642 q1244 q1243 rfl q1245 q1247 q1248 q1246 q414 rfl (lw_all_tbl q1249) q131 (by exact (⟨by decide, by decide, by decide +kernel⟩ : g_pl ⟨"java/util/List", "iterator", "()Ljava/util/Iterator;"⟩ 0)) gc_J4 lT2.1 ((k_J4_iterator lT2)) (by omega) (Nat.le_of_ble_eq_true rfl) (by omega) (by omega) rfl (Nat.le_of_ble_eq_true rfl) rfl (kA fun r133 h133 n133 t133 e133 => ?_) kN
      obtain ⟨q9, q8, q7⟩ := e133; have q9 := q9.symm; have q8 := q8.symm; have q7 := q7.symm; subst q9; subst q8; subst q7
      refine r_astore2 dX2_copy_138 ?_
      refine g_bud (bc' := 2 * ρ 2) (bs' := 13 * ρ 2) (by omega) (by omega) (Nat.le_refl _) (loop3 (ρ 2) 0 _ _ _ _ n1 (by omega) c3 (st.tr (stab.eq (Nat.le_succ n1) g2 fun q hq => g_un (by omega))) (by omega) (by omega) (by omega) g_us ((kc.keep fun q hq => g_un (by omega)).mono (Nat.le_succ n1)))
    | succ g ih =>
      intro j v9 o3 h1 n1 it hj c3 st hn a1 a2 hi kc
      have hjl : j < ρ 1 := by omega
      refine g_facts fun g1 g2 g3 => ?_
      have lT := b4.stab st
      have gj := f2 _ _ (b5 j hjl).1
      have l1' := b1.2
      have e1 : (g_up h1 it (g_ob 31 [.int (nI (j + 1)), .int (nI j), .int mb, .ref lb])) (B j) = some (bw ρ j) := by
        rw [g_un (by omega)]
        exact st.ob (b5 j hjl).1 (by decide)
      have e2 : (g_up (g_up h1 it (g_ob 31 [.int (nI (j + 1)), .int (nI j), .int mb, .ref lb])) n1 (g_ob 5 [.int (nI 0), .int (nI 0)])) (B j) = some (bw ρ j) := by
        rw [g_un (by have := st.1; omega)]
        exact e1
      have kc1 := kc.keepI (h' := g_up h1 it (g_ob 31 [.int (nI (j + 1)), .int (nI j), .int mb, .ref lb])) hi (Or.inr rfl) (fun q hq => g_un hq)
      obtain ⟨c1, c2, c30, tc, lbc, ebc, llc, elc, c4, c5, c6, c7, c8, c9⟩ := kc1
      obtain ⟨d1, d2, d3, m2, B2, d4, d5⟩ := id c6
      have d40 := d4
      obtain ⟨d41, dr, d42, d43⟩ := d40
      have d11 := d1.1
      have d12 := d1.2
      refine r_aload2 dX2_copy_82 ?_
      refine r_callF (M' := mJ33_hasNext) _ dX2_copy_83 q1644 q1357 q1356 rfl q1376 q1378 q1379 q1377 q1375 rfl (lw_all_tbl q1380) q167 (by exact (⟨by decide, by decide, by decide +kernel⟩ : g_pl ⟨"java/util/Iterator", "hasNext", "()Z"⟩ 0)) gc_J33 hi ((k_J33_hasNext lT (by rw [blist_len]; omega) hi)) (by omega) (Nat.le_of_ble_eq_true rfl) (by omega) (by omega) rfl (Nat.le_of_ble_eq_true rfl) rfl (kI fun r83 h83 n83 e83 => ?_) kN
      obtain ⟨q9, q8, q7⟩ := e83; have q9 := q9.symm; have q8 := q8.symm; have q7 := q7.symm; subst q9; subst q8; subst q7
      refine r_if_eqB (tgt := 129) dX2_copy_88 (by decide) (fun c88 => absurd c88 (by rw [blist_len]; omega)) (fun c88 => ?_)
      refine r_aload2 dX2_copy_91 ?_
      refine r_callF (M' := mJ33_next) _ dX2_copy_92 q1646 q1399 q1398 rfl q1505 q1507 q1508 q1506 q1375 rfl (lw_all_tbl q1509) q167 (by exact (⟨by decide, by decide, by decide +kernel⟩ : g_pl ⟨"java/util/Iterator", "next", "()Ljava/lang/Object;"⟩ 0)) gc_J33 hi ((k_J33_next (by omega) (by omega) lT (by omega) (blist_at hjl) (Or.inr ⟨_, rfl⟩) hi)) (by omega) (Nat.le_of_ble_eq_true rfl) (by omega) (by omega) rfl (Nat.le_of_ble_eq_true rfl) rfl (kA fun r92 h92 n92 t92 e92 => ?_) kN
      obtain ⟨q9, q8, q7⟩ := e92; have q9 := q9.symm; have q8 := q8.symm; have q7 := q7.symm; subst q9; subst q8; subst q7
      refine r_checkcast dX2_copy_97 gc_X7 q1647 (Or.inl rfl) e1 ?_
      refine r_astore3 dX2_copy_100 ?_
      refine r_aload1 dX2_copy_101 ?_
      refine f_X2_21_X2 dX2_copy_102 c4 ?_
      refine n_X2_83 dX2_copy_105 (by omega) (by omega) ?_
      refine r_dup dX2_copy_108 ?_
      refine r_aload3 dX2_copy_109 ?_
      refine f_X2_85_X7 dX2_copy_110 e2 ?_
      refine r_aload3 dX2_copy_113 ?_
      refine f_X2_88_X7 dX2_copy_114 e2 ?_
      refine r_callI (M' := mX7_init) _ dX2_copy_117 q2217 q2218 rfl rfl rfl (lw_all_tbl q2219) q172 (by exact pl_X7_init)  ((k_X7_init (a := n1) (by omega) g_us)) (by omega) (Nat.le_of_ble_eq_true rfl) (by omega) (by omega) rfl (Nat.le_of_ble_eq_true rfl) rfl (kV fun h117 n117 e117 => ?_) kN
      obtain ⟨q8, q7⟩ := e117; have q8 := q8.symm; have q7 := q7.symm; subst q8; subst q7
      rw [g_up_up]
      refine r_callF (M' := mJ4_add) _ dX2_copy_120 q2233 q2235 q2234 rfl q2236 q2238 q2239 q2237 q414 rfl (lw_all_tbl q2240) q131 (by exact (⟨by decide, by decide, by decide +kernel⟩ : g_pl ⟨"java/util/List", "add", "(Ljava/lang/Object;)Z"⟩ 1)) gc_J4 (by rw [g_un (by omega)]; exact d41) ((k_J4_add w0 (by omega) (d4.of (g_un (by omega)) (g_un (by omega))) (by rw [blist_len, cR_1]; omega) gc_X7 q4050 g_us (by omega))) (by omega) (Nat.le_of_ble_eq_true rfl) (by omega) (by omega) rfl (Nat.le_of_ble_eq_true rfl) rfl (kI fun r120 h120 n120 e120 => ?_) kN
      obtain ⟨e', z1, z2, z3, z4, z5, z7, z6⟩ := e120
      have kn := bk_pushB (ρ := cR ρ (ρ 0) j 0) (ρ' := cR ρ (ρ 0) (j + 1) 0) (h' := h120) (n' := n120) (n := n1) w0 (by rw [cR_0]; omega) rfl (fun q q1 q2 q3 => cR_e (fun _ => rfl) (fun z => absurd z q1) (fun _ => rfl)) c1 c30 c4 c5 d1 d2 d5 d41 d42 c7 c8 c9 d3 (by rw [cR_1]; omega) z1 z2 z3 z5 (fun q q1 q2 q3 => (z4 q q1 q2 q3).trans (congrFun (congrArg _ bw_cR.symm) q))
      have en : ∀ q : Nat, q < n → q ≠ e' := fun q hq => by
        rcases z2 with z2 | z2
        · rcases d2 with d2 | d2
          · have := w0.1.2.1; omega
          · have := d2.1; omega
        · omega
      have st2 : stab n h n120 h120 := st.updO f2 (by omega) (fun q hq => by rw [z4 q (by omega) (by omega) (en q hq), g_un (by omega), g_un (by omega)]) (fun q vs q1 => by
        have q2 := g2 _ _ q1
        have q3 : q ≠ it := fun z => by rw [z, hi] at q1; exact absurd (obj_inj q1) (by decide)
        have q10 : (g_up h1 it (g_ob 31 [.int (nI (j + 1)), .int (nI j), .int mb, .ref lb])) q = some (g_ob 25 vs) := by rw [g_un q3]; exact q1
        have q4 : q ≠ lbc := fun z => by rw [z, d41] at q10; exact absurd (obj_inj q10) (by decide)
        have q5 : q ≠ e' := fun z => by
          rcases z2 with z2 | z2
          · rw [z, z2, d42] at q10; exact obj_arr q10.symm
          · omega
        rw [z4 q (by omega) q4 q5, g_un (by omega), g_un q3])
      have hi2 : h120 it = some (g_ob 31 [.int (nI (j + 1)), .int (nI j), .int mb, .ref lb]) := by
        have q10 : (g_up h1 it (g_ob 31 [.int (nI (j + 1)), .int (nI j), .int mb, .ref lb])) it = some (g_ob 31 [.int (nI (j + 1)), .int (nI j), .int mb, .ref lb]) := g_us
        have q4 : it ≠ lbc := fun z => by have q11 := d41; rw [← z, g_us] at q11; exact absurd (obj_inj q11) (by decide)
        have q5 : it ≠ e' := fun z => by
          rcases z2 with z2 | z2
          · have q11 := d42; rw [← z2, ← z, g_us] at q11; exact obj_arr q11
          · omega
        rw [z4 it (by omega) q4 q5, g_un (by omega), g_us]
      refine r_pop dX2_copy_125 ?_
      refine r_goto (tgt := 82) dX2_copy_126 (by decide) ?_
      refine g_bud (bc' := 2 * g + 17) (bs' := 12 * g + 110) (by omega) (by omega) (Nat.le_refl _) (ih (j + 1) _ _ _ _ it (by omega) g_c1r st2 (by omega) a1 (by omega) hi2 kn)
  have loop1 : ∀ (g j : Nat) (o3 : Option Value) (h1 : g_P) (n1 it : Nat), j + g = ρ 0 → g_c1 o3 → stab n h n1 h1 → n1 + g ≤ n + 14 → n ≤ it → it < n1 → dIt K W t ρ N F mc j it h1 → bk K W n n1 n (cR ρ j 0 0) (fun _ => lN 0) h1 → g_G K mX2_copy 8 (g + 28) (6 * g + 174) (gA fun r h' n' => r = .ref n ∧ bk K W n n' n ρ α h' ∧ stab n h n' h' ∧ n' ≤ n + 42) gN 21 [some (.ref b), some (.ref n), some (.ref it), o3] [] h1 n1 := by
    intro g
    induction g with
    | zero =>
      intro j o3 h1 n1 it hj c3 st hn q1 q2 d kc
      have : j = ρ 0 := by omega
      subst this
      refine g_facts fun g1 g2 g3 => ?_
      obtain ⟨vs, hc⟩ := d.cell
      have lT := b4.stab st
      have k44 := st.ob k4 (by decide)
      refine r_aload2 dX2_copy_21 ?_
      refine r_callF (M' := mJ25_hasNext) _ dX2_copy_22 q1644 q1357 q1356 rfl q1391 q1393 q1394 q1392 q1390 rfl (lw_all_tbl q1395) q158 (by exact (⟨by decide, by decide, by decide +kernel⟩ : g_pl ⟨"java/util/Iterator", "hasNext", "()Z"⟩ 0)) gc_J26 hc ((k_dHas d)) (by omega) (Nat.le_of_ble_eq_true rfl) (by omega) (by omega) rfl (Nat.le_of_ble_eq_true rfl) rfl (kI fun r22 h22 n22 e22 => ?_) kN
      obtain ⟨q9, q8, q7⟩ := e22; have q9 := q9.symm; have q8 := q8.symm; have q7 := q7.symm; subst q9; subst q8; subst q7
      refine r_if_eqB (tgt := 72) dX2_copy_27 (by decide) (fun c27 => ?_) (fun c27 => absurd c27 (by omega))
      refine r_aload0 dX2_copy_72 ?_
      refine f_X2_21_X2 dX2_copy_73 k44 ?_
      refine r_callF (M' := mJ4_iterator) _ dX2_copy_76 q1642 q1244 q1243 rfl q1245 q1247 q1248 q1246 q414 rfl (lw_all_tbl q1249) q131 (by exact (⟨by decide, by decide, by decide +kernel⟩ : g_pl ⟨"java/util/List", "iterator", "()Ljava/util/Iterator;"⟩ 0)) gc_J4 lT.1 ((k_J4_iterator lT)) (by omega) (Nat.le_of_ble_eq_true rfl) (by omega) (by omega) rfl (Nat.le_of_ble_eq_true rfl) rfl (kA fun r76 h76 n76 t76 e76 => ?_) kN
      obtain ⟨q9, q8, q7⟩ := e76; have q9 := q9.symm; have q8 := q8.symm; have q7 := q7.symm; subst q9; subst q8; subst q7
      refine r_astore2 dX2_copy_81 ?_
      refine g_bud (bc' := 2 * ρ 1 + 17) (bs' := 12 * ρ 1 + 110) (by omega) (by omega) (Nat.le_refl _) (loop2 (ρ 1) 0 _ _ _ _ n1 (by omega) c3 (st.tr (stab.eq (Nat.le_succ n1) g2 fun q hq => g_un (by omega))) (by omega) (by omega) (by omega) g_us ((kc.keep fun q hq => g_un (by omega)).mono (Nat.le_succ n1)))
    | succ g ih =>
      intro j o3 h1 n1 it hj c3 st hn a1 a2 d kc
      have hjl : j < ρ 0 := by omega
      obtain ⟨vs, hc⟩ := d.cell
      refine r_aload2 dX2_copy_21 ?_
      refine r_callF (M' := mJ25_hasNext) _ dX2_copy_22 q1644 q1357 q1356 rfl q1391 q1393 q1394 q1392 q1390 rfl (lw_all_tbl q1395) q158 (by exact (⟨by decide, by decide, by decide +kernel⟩ : g_pl ⟨"java/util/Iterator", "hasNext", "()Z"⟩ 0)) gc_J26 hc ((k_dHas d)) (by omega) (Nat.le_of_ble_eq_true rfl) (by omega) (by omega) rfl (Nat.le_of_ble_eq_true rfl) rfl (kI fun r22 h22 n22 e22 => ?_) kN
      obtain ⟨q9, q8, q7⟩ := e22; have q9 := q9.symm; have q8 := q8.symm; have q7 := q7.symm; subst q9; subst q8; subst q7
      refine r_if_eqB (tgt := 72) dX2_copy_27 (by decide) (fun c27 => absurd c27 (by omega)) (fun c27 => ?_)
      refine r_aload2 dX2_copy_30 ?_
      refine r_callF (M' := mJ26_next) _ dX2_copy_31 q1646 q1399 q1398 rfl q1532 q1534 q1535 q1533 q1390 rfl (lw_all_tbl q1536) q159 (by exact (⟨by decide, by decide, by decide +kernel⟩ : g_pl ⟨"java/util/Iterator", "next", "()Ljava/lang/Object;"⟩ 0)) gc_J26 hc ((k_dNext d (by omega) hjl)) (by omega) (Nat.le_of_ble_eq_true rfl) (by omega) (by omega) rfl (Nat.le_of_ble_eq_true rfl) rfl (kA fun r31 h31 n31 t31 e31 => ?_) kN
      obtain ⟨rfl, d3, y1, rfl⟩ := e31
      have st3 := st.upd f2 a1 ⟨_, hc⟩ y1
      refine g_facts fun g1 g2 g3 => ?_
      have k44 := st3.ob k4 (by decide)
      have k55 := k5.stab st3 (Nat.le_refl _)
      obtain ⟨tvs, hm⟩ := k55.cell
      obtain ⟨x, z1, z2, z3⟩ := k_getD (n := n31) w0 g3 k55 (by omega) hjl
      obtain ⟨c1, c2, c30, tc, lbc, ebc, llc, elc, c4, c5, c6, c7, c8⟩ := kc.keepI hc (Or.inl rfl) y1
      obtain ⟨tvs2, hm2⟩ := c5.cell
      have hnew := bkD_.new (f := x) (x := ρ (10 + 2 * j)) (y := ρ (11 + 2 * j)) w0 c5 (by rw [cR_0]; omega) c1 (by have := c30.1; have := c30.2; omega) z1 z2
      rw [cR_0] at hnew
      refine r_checkcast dX2_copy_36 gc_J14 q1768 (Or.inl rfl) (w0.i g3 (by omega)) ?_
      refine r_callV (M' := mJ14_intValue) _ dX2_copy_39 q1769 q1770 q1771 rfl (lw_all_tbl q1772) q144 (by exact pl_J14_intValue) gc_J14 (w0.i g3 (by omega)) ((k_intValue (w0.i g3 (by omega)) rfl)) (by omega) (Nat.le_of_ble_eq_true rfl) (by omega) (by omega) rfl (Nat.le_of_ble_eq_true rfl) rfl (kI fun r39 h39 n39 e39 => ?_) kN
      obtain ⟨q9, q8, q7⟩ := e39; have q9 := q9.symm; have q8 := q8.symm; have q7 := q7.symm; subst q9; subst q8; subst q7
      refine r_istore3 dX2_copy_42 ?_
      refine r_aload1 dX2_copy_43 ?_
      refine f_X2_12_X2 dX2_copy_44 c4 ?_
      refine r_iload3 dX2_copy_47 ?_
      refine r_callS (M' := mJ14_valueOf) _ dX2_copy_48 q1777 q1778 rfl (lw_all_tbl q1779) q144 (by exact pl_J14_valueOf)  ((k_valueOf w0 (by omega))) (by omega) (Nat.le_of_ble_eq_true rfl) (by omega) (by omega) rfl (Nat.le_of_ble_eq_true rfl) rfl (kA fun r48 h48 n48 t48 e48 => ?_) kN
      obtain ⟨q9, q8, q7⟩ := e48; have q9 := q9.symm; have q8 := q8.symm; have q7 := q7.symm; subst q9; subst q8; subst q7
      refine r_aload0 dX2_copy_51 ?_
      refine f_X2_12_X2 dX2_copy_52 k44 ?_
      refine r_iload3 dX2_copy_55 ?_
      refine r_callS (M' := mJ14_valueOf) _ dX2_copy_56 q1777 q1778 rfl (lw_all_tbl q1779) q144 (by exact pl_J14_valueOf)  ((k_valueOf w0 (by omega))) (by omega) (Nat.le_of_ble_eq_true rfl) (by omega) (by omega) rfl (Nat.le_of_ble_eq_true rfl) rfl (kA fun r56 h56 n56 t56 e56 => ?_) kN
      obtain ⟨q9, q8, q7⟩ := e56; have q9 := q9.symm; have q8 := q8.symm; have q7 := q7.symm; subst q9; subst q8; subst q7
      refine r_callV (M' := mJ1_get) _ dX2_copy_59 q1796 q1797 q1798 rfl (lw_all_tbl q1799) q128 (by exact pl_J1_get) gc_J1 hm (z3) (by omega) (Nat.le_of_ble_eq_true rfl) (by omega) (by omega) rfl (Nat.le_of_ble_eq_true rfl) rfl (kA fun r59 h59 n59 t59 e59 => ?_) kN
      obtain ⟨q9, q8, q7⟩ := e59; have q9 := q9.symm; have q8 := q8.symm; have q7 := q7.symm; subst q9; subst q8; subst q7
      refine r_checkcast dX2_copy_62 gc_X6 q1816 (Or.inl rfl) z1 ?_
      refine r_callV (M' := mJ1_put) _ dX2_copy_65 q2205 q1985 q4020 rfl (lw_all_tbl q1987) q128 (by exact pl_J1_put) gc_J1 hm2 (hnew) (by omega) (Nat.le_of_ble_eq_true rfl) (by omega) (by omega) rfl (Nat.le_of_ble_eq_true rfl) rfl (kA fun r65 h65 n65 t65 e65 => ?_) kN
      obtain ⟨p1, ⟨p2, p3, p4⟩, rfl⟩ := e65
      have hcat : r65.category = 1 := by rcases t65 with rfl | ⟨y, rfl⟩ <;> rfl
      have p5 := p1.ext (ρ' := cR ρ (j + 1) 0 0) (by rw [fup_s]; rfl) (fun i hi => by
        rw [fup_s] at hi
        rw [fc_cR]
        unfold fc
        by_cases z : i = j
        · rw [z, fup_n (by omega), fup_n (by omega), fup_s, fup_n (by omega), fup_s]
        · rw [fup_n (by omega), fup_n (by omega), fup_n (by omega), fup_n (by omega), fup_n (by omega), fup_n (by omega), cR_o (by omega), cR_o (by omega)])
      have kn := bk_pushD (ρ := cR ρ j 0 0) (ρ' := cR ρ (j + 1) 0 0) c1 c2 c30 c4 c6 c7 c8 (Nat.le_succ n31) (fun q k vs q1 _ q3 q4 => p2 q k vs q1 q3 q4) (fun q k vs q1 _ => p3 q k vs q1) (fun q q1 q2 => cR_e (fun z => absurd z q1) (fun _ => rfl) (fun _ => rfl)) p5
      have st4 := st3.updO (n2 := n31 + 1) (h2 := h65) f2 (Nat.le_succ n31) (fun q hq => p4 q hq) (fun q vs q1 => p2 q 25 vs q1 (by decide) (by decide))
      obtain ⟨vs3, hc3⟩ := d3.cell
      have d4 := d3.keep (h' := h65) (p4 t dR.2) (fun i hi => p4 _ (dN i hi)) (fun q vs q1 => p2 q 25 vs q1 (by decide) (by decide)) (p2 it 26 _ hc3 (by decide) (by decide))
      refine r_pop dX2_copy_68 ?_ hcat
      refine r_goto (tgt := 21) dX2_copy_69 (by decide) ?_
      refine g_bud (bc' := g + 28) (bs' := 6 * g + 174) (by omega) (by omega) (Nat.le_refl _) (ih (j + 1) _ _ _ it (by omega) g_c1i st4 (by omega) a1 (by omega) d4 kn)
  refine g_Met.of (M := mX2_copy) (L := [some (.ref b), none, none, none]) (by decide +kernel) (Nat.le_of_ble_eq_true rfl) rfl ?_
  refine n_X2_13 dX2_copy_0 (by omega) (by omega) ?_
  refine r_dup dX2_copy_3 ?_
  refine r_callI (M' := mX2_init) _ dX2_copy_4 q2215 q205 rfl rfl rfl (lw_all_tbl q206) q126 (by exact pl_X2_init)  ((k_X2_init (n := n + 1) w0 f1 (Nat.lt_succ_self n) g_us)) (by omega) (Nat.le_of_ble_eq_true rfl) (by omega) (by omega) rfl (Nat.le_of_ble_eq_true rfl) rfl (kV fun h4 n4 e4 => ?_) kN
  obtain ⟨kc0, y0, rfl⟩ := e4
  have st0 := stab.eq (n := n) (n' := n + 1 + 3) (h := h) (h' := h4) (by omega) f2 (fun q hq => by rw [y0 q (by omega) (by omega), g_un (by omega)])
  have k44 := st0.ob k4 (by decide)
  obtain ⟨tvs, hm⟩ := (dm.stab st0).cell
  refine r_astore1 dX2_copy_7 ?_
  refine r_aload0 dX2_copy_8 ?_
  refine f_X2_12_X2 dX2_copy_9 k44 ?_
  refine r_callV (M' := mJ1_keySet) _ dX2_copy_12 q1680 q1681 q1682 rfl (lw_all_tbl q1683) q128 (by exact pl_J1_keySet) gc_J1 hm ((k_dKeys (dm.stab st0) dt)) (by omega) (Nat.le_of_ble_eq_true rfl) (by omega) (by omega) rfl (Nat.le_of_ble_eq_true rfl) rfl (kA fun r12 h12 n12 t12 e12 => ?_) kN
  obtain ⟨ks, rfl, a1, a3, a4, a5, a6⟩ := e12
  refine g_facts fun i1 i2 i3 => ?_
  have kc1 := kc0.stab a3 (Nat.le_refl _)
  refine r_callF (M' := mJ24_iterator) _ dX2_copy_15 q1702 q1704 q1703 rfl q1706 q1708 q1709 q1707 q1705 rfl (lw_all_tbl q1710) q157 (by exact (⟨by decide, by decide, by decide +kernel⟩ : g_pl ⟨"java/util/Set", "iterator", "()Ljava/util/Iterator;"⟩ 0)) gc_J24 a1 ((k_dIter ((dm.stab st0).stab a3) a1)) (by omega) (Nat.le_of_ble_eq_true rfl) (by omega) (by omega) rfl (Nat.le_of_ble_eq_true rfl) rfl (kA fun r15 h15 n15 t15 e15 => ?_) kN
  obtain ⟨rfl, d5, y5, rfl⟩ := e15
  have st5 := stab.eq (Nat.le_succ n12) i2 y5
  have kc2 := ((kc1.keep y5).mono (Nat.le_succ n12)).ext (ρ' := cR ρ 0 0 0) (fun q hq => by
    have : q = 0 ∨ q = 1 ∨ q = 2 ∨ q = 3 ∨ q = 4 ∨ q = 5 := by omega
    rcases this with rfl | rfl | rfl | rfl | rfl | rfl <;> rfl) (fun i hi => absurd hi (Nat.not_lt_zero i)) (fun i hi => absurd hi (Nat.not_lt_zero i)) (fun i hi => absurd hi (Nat.not_lt_zero i))
  refine r_astore2 dX2_copy_20 ?_
  refine g_bud (bc' := ρ 0 + 28) (bs' := 6 * ρ 0 + 174) (by omega) (by omega) (Nat.le_refl _) (loop1 (ρ 0) 0 none _ _ n12 (by omega) g_c1n ((st0.tr a3).tr st5) (by omega) (by omega) (by omega) d5 kc2)
end
