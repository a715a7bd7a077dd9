/-! doughs added and mixed -/
set_option maxRecDepth 100000
section
variable {K : g_K} {W : c_W} {A : Nat → Nat} {lo hi hi' b t l e a n u lb eb ll el x y f : Nat} {ρ ρ' : Nat → Nat} {α : Nat → Int64} {h h' : g_P}
theorem dlist_put {m i : Nat} {N F : Nat → Nat} (ij : i < m) : dlist W i N F ++ (N i, .ref (c_i W i), .ref f) :: dtail W i m N F = dlist W m N (fup F i f) := by
  rw [dlist_split ij, fup_s]
  congr 1
  · unfold dlist
    apply List.map_congr_left
    intro j hj
    rw [fup_n (by have := List.mem_range.mp hj; omega)]
  · congr 1
    unfold dtail
    apply List.map_congr_left
    intro j hj
    rw [fup_n (by omega)]
theorem dlist_snoc {m nd : Nat} {N F : Nat → Nat} : dlist W m N F ++ [(nd, .ref (c_i W m), .ref f)] = dlist W (m + 1) (fup N m nd) (fup F m f) := by
  unfold dlist
  rw [List.range_succ, List.map_append]
  congr 1
  · apply List.map_congr_left
    intro j hj
    have := List.mem_range.mp hj
    rw [fup_n (by omega), fup_n (by omega)]
  · simp [fup_s]
theorem tm.node {mp : Nat} {L : List c_N} {mc : Int32} {nk : Value} (T : tm K mp L mc nk h) {z : c_N} (hz : z ∈ L) : ∃ vs, h z.1 = some (g_ob 24 vs) := by
  obtain ⟨⟨tt, hm, sN, -⟩, -⟩ := T
  obtain ⟨L1, L2, e2⟩ := List.append_of_mem hz
  obtain ⟨j, A1, A2, B1, B2, l, r, q, c, -, -, ea, -⟩ := sN.foc (a := z.1) (kk := z.2.1) (v := z.2.2) e2 (k := 0) (A := []) (B := []) (t := tt) ⟨rfl, rfl, rfl, rfl⟩
  exact ⟨_, ea⟩
theorem bkD_.cell (k : bkD_ K W lo hi t ρ h) : ∃ vs, h t = some (g_ob 17 vs) := by
  obtain ⟨h1, N, F, mc, nk, ⟨⟨tt, hm, -⟩, -⟩, -⟩ := k
  exact ⟨_, hm⟩
theorem bkD_.put (w0 : cOK K W) (k : bkD_ K W lo hi t ρ h) (h6 : ρ 0 ≤ 6) (bm : k_b K ≤ lo) {i : Nat} (ij : i < ρ 0) (hf : h f = some (g_ob 4 [.int (nI x), .int (nI y)])) (lf : f < hi) : g_Met K mJ1_put 5 0 0 [.ref t, .ref (c_i W i), .ref f] h n (gA fun r h' n' => bkD_ K W lo hi t (fup (fup ρ (10 + 2 * i) x) (11 + 2 * i) y) h' ∧ (∃ nd vs, h nd = some (g_ob 24 vs) ∧ inR lo hi nd ∧ ∀ z : Nat, z ≠ nd → h' z = h z) ∧ n' = n) gN := by
  refine g_Met.facts fun f1 f2 f3 => ?_
  obtain ⟨ky, hky⟩ := kyW w0
  obtain ⟨h1, N, F, mc, nk, T, h3, h4⟩ := k
  have T0 := T
  rw [dlist_split ij] at T
  refine (k_putOld (b := true) (ky := ky) (by have := h1.1; omega) T (fun z hz => ?_) (fun z hz => ?_) (fun z hz => ?_) (by rw [hky i (by omega)]; exact kycI w0 f3 (by omega)) (Or.inr ⟨_, rfl⟩)).mono ?_ (fun _ _ _ q => q)
  · rw [← dlist_split ij] at hz
    obtain ⟨j, hj, rfl⟩ := dlist_mem hz
    dsimp only
    rw [hky j (by omega)]
    exact kycI w0 f3 (by omega)
  · obtain ⟨j, hj, rfl⟩ := dlist_mem hz
    dsimp only
    rw [hky j (by omega), hky i (by omega)]
    omega
  · obtain ⟨j, hj, hj2, rfl⟩ := dtail_mem hz
    dsimp only
    rw [hky j (by omega), hky i (by omega)]
    omega
  · rintro v h' n' ⟨r, rfl, rr, rfl, T', fr', rfl⟩
    rw [dlist_put ij] at T'
    obtain ⟨vs, hnd⟩ := T0.node (z := (N i, .ref (c_i W i), .ref (F i))) (by rw [dlist_split ij]; simp)
    have fo : ∀ (q k : Nat) (vs : List Value), h q = some (g_ob k vs) → k ≠ 24 → h' q = h q := fun q k vs q1 q2 => fr' q (fun z => by rw [z, hnd] at q1; exact q2 (obj_inj q1).symm)
    refine ⟨_, rfl, rr, ⟨h1, N, fup F i f, mc, nk, by rw [fup_n (by omega), fup_n (by omega)]; exact T', ?_, fun j hj => ?_⟩, ⟨N i, vs, hnd, (h4 i ij).2.2, fr'⟩, rfl⟩
    · rcases h3 with h3 | ⟨s, h3, h5, h6⟩
      · exact Or.inl h3
      · exact Or.inr ⟨s, h3, h5, (fo _ _ _ h6 (by decide)).trans h6⟩
    · rw [fup_n (by omega), fup_n (by omega)] at hj
      by_cases ji : j = i
      · subst ji
        rw [fup_s]
        refine ⟨(fo _ _ _ hf (by decide)).trans ?_, lf, (h4 j hj).2.2⟩
        rw [hf]
        unfold fc
        rw [fup_s, fup_n (by omega), fup_s]
      · rw [fup_n ji]
        refine ⟨(fo _ _ _ (h4 j hj).1 (by decide)).trans ?_, (h4 j hj).2⟩
        rw [(h4 j hj).1]
        unfold fc
        rw [fup_n (by omega), fup_n (by omega), fup_n (by omega), fup_n (by omega)]
theorem bkD_.new (w0 : cOK K W) (k : bkD_ K W lo n t ρ h) (h6 : ρ 0 < 6) (bm : k_b K ≤ lo) (ln : lo ≤ n) (hf : h f = some (g_ob 4 [.int (nI x), .int (nI y)])) (lf : f < n) : g_Met K mJ1_put 7 1 6 [.ref t, .ref (c_i W (ρ 0)), .ref f] h n (gA fun r h' n' => bkD_ K W lo (n + 1) t (fup (fup (fup ρ (10 + 2 * ρ 0) x) (11 + 2 * ρ 0) y) 0 (ρ 0 + 1)) h' ∧ ((∀ (q k : Nat) (vs : List Value), h q = some (g_ob k vs) → k ≠ 24 → k ≠ 17 → h' q = h q) ∧ (∀ (q k : Nat) (vs : List Value), h q = some (g_ar k vs) → h' q = h q) ∧ ∀ z : Nat, z < lo → h' z = h z) ∧ n' = n + 1) gN := by
  refine g_Met.facts fun f1 f2 f3 => ?_
  obtain ⟨ky, hky⟩ := kyW w0
  obtain ⟨h1, N, F, mc, nk, T, h3, h4⟩ := k
  have T0 := T
  have Tc := T.1
  obtain ⟨tt, hm, -⟩ := Tc
  rw [show dlist W (ρ 0) N F = dlist W (ρ 0) N F ++ [] by simp] at T
  refine (k_put (b := true) (ky := ky) (by have := h1.1; omega) T (fun z hz => ?_) (fun z hz => ?_) (fun z hz => by cases hz) (by rw [hky (ρ 0) (by omega)]; exact kycI w0 f3 (by omega))).mono ?_ (fun _ _ _ q => q)
  · rw [List.append_nil] at hz
    obtain ⟨j, hj, rfl⟩ := dlist_mem hz
    dsimp only
    rw [hky j (by omega)]
    exact kycI w0 f3 (by omega)
  · obtain ⟨j, hj, rfl⟩ := dlist_mem hz
    dsimp only
    rw [hky j (by omega), hky (ρ 0) (by omega)]
    omega
  · rintro v h' n' ⟨r, rfl, rr, rfl, T', fr', rfl⟩
    rw [dlist_snoc] at T'
    have fo : ∀ (q : Nat) (c : g_C), h q = some c → (∀ vs, c ≠ g_ob 24 vs) → (∀ vs, c ≠ g_ob 17 vs) → h' q = h q := fun q c q1 q2 q3 => by
      refine fr' q (fun z => ?_) (fun z hz e => ?_)
      · rw [z, hm] at q1
        exact q3 _ (Option.some.inj q1).symm
      · rcases List.mem_append.mp hz with hz | hz
        · obtain ⟨vs, e2⟩ := T0.node hz
          rw [e, q1] at e2
          exact q2 _ (Option.some.inj e2)
        · rw [List.mem_singleton.mp hz] at e
          have := f2 _ _ q1
          dsimp only at e
          omega
    have fob : ∀ (q k : Nat) (vs : List Value), h q = some (g_ob k vs) → k ≠ 24 → k ≠ 17 → h' q = h q := fun q k vs q1 q2 q3 => fo q _ q1 (fun vs e => q2 (obj_inj (congrArg some e))) (fun vs e => q3 (obj_inj (congrArg some e)))
    refine ⟨_, rfl, rr, ⟨h1.mono (by omega), fup N (ρ 0) n, fup F (ρ 0) f, mc + nI 1, nk, by rw [fup_s]; exact T', ?_, fun j hj => ?_⟩, ⟨fob, fun q k vs q1 => fo q _ q1 (fun vs e => obj_arr (congrArg some e.symm)) (fun vs e => obj_arr (congrArg some e.symm)), fun z hz => fr' z (by have := h1.1; omega) (fun w hw e => ?_)⟩, rfl⟩
    · rcases h3 with h3 | ⟨s, h3, h5, h6⟩
      · exact Or.inl h3
      · exact Or.inr ⟨s, h3, Nat.lt_succ_of_lt h5, (fob _ _ _ h6 (by decide) (by decide)).trans h6⟩
    · rw [fup_s] at hj
      by_cases ji : j = ρ 0
      · subst ji
        rw [fup_s, fup_s]
        refine ⟨(fob _ _ _ hf (by decide) (by decide)).trans ?_, by omega, ln, by omega⟩
        rw [hf]
        unfold fc
        rw [fup_n (by omega), fup_n (by omega), fup_s, fup_n (by omega), fup_s]
      · rw [fup_n ji, fup_n ji]
        obtain ⟨d1, d2, d3⟩ := h4 j (by omega)
        refine ⟨(fob _ _ _ d1 (by decide) (by decide)).trans ?_, by omega, d3.mono (by omega)⟩
        rw [d1]
        unfold fc
        rw [fup_n (by omega), fup_n (by omega), fup_n (by omega), fup_n (by omega), fup_n (by omega), fup_n (by omega)]
    · rcases List.mem_append.mp hw with hw | hw
      · obtain ⟨i, hi, ez⟩ := dlist_mem hw
        have := (h4 i hi).2.2.1
        rw [ez] at e
        dsimp only at e
        omega
      · rw [List.mem_singleton.mp hw] at e
        dsimp only at e
        omega
/-- the bakery behind a change of its doughs -/
theorem bk_D (k1 : k_b K ≤ lo) (k2 : k_b K ≤ hi) (k3 : inR lo hi b) (k4 : h b = some (bkO b t lb ll ρ α)) (k6 : bkB_ K W lo hi lb eb ρ h) (k7 : bkL_ K W lo hi ll el ρ h) (k8 : lb ≠ ll ∧ (eb = el → eb = c_E W)) (w : wB u ρ) (hh : hi ≤ hi') (fO : ∀ (q k : Nat) (vs : List Value), h q = some (g_ob k vs) → q < hi → k ≠ 24 → k ≠ 17 → h' q = h q) (fA : ∀ (q k : Nat) (vs : List Value), h q = some (g_ar k vs) → q < hi → h' q = h q) (eρ : ∀ q, q ≠ 0 → (q < 10 ∨ 22 ≤ q) → ρ' q = ρ q) (k5 : bkD_ K W lo hi' t ρ' h') : bk K W lo hi' b ρ' α h' := by
  have wb := w.b
  obtain ⟨v1, v2, c1, c2, c3, c4⟩ := k6.cells
  obtain ⟨v3, v4, c5, c6, c7, c8⟩ := k7.cells
  refine ⟨k1, by omega, k3.mono hh, t, lb, eb, ll, el, ?_, k5, ?_, ?_, k8⟩
  · rw [fO _ _ _ k4 k3.2 (by decide) (by decide), k4, bkO_ext (fun q _ _ => eρ q (by omega) (by omega))]
  · exact ((k6.ext (eρ 1 (by decide) (by decide)) (fun j hj => by unfold bw; rw [eρ _ (by omega) (by omega), eρ _ (by omega) (by omega)])).keepC (fO _ _ _ c1 c3 (by decide) (by decide)) (fA _ _ _ c2 c4) (fun q vs q1 q2 => fO q 5 vs q1 q2 (by decide) (by decide))).mono hh
  · exact ((k7.ext (eρ 2 (by decide) (by decide)) (fun j hj => by unfold lf; rw [eρ _ (by omega) (by omega), eρ _ (by omega) (by omega), eρ _ (by omega) (by omega)])).keepC (fO _ _ _ c5 c7 (by decide) (by decide)) (fA _ _ _ c6 c8) (fun q vs q1 q2 => fO q 6 vs q1 q2 (by decide) (by decide))).mono hh
end
