/-! changes of a bakery: bowls and loaves are added, ovens and rounding set -/
set_option maxRecDepth 100000
/-- a condition's failure of kind c has been thrown -/
def cfX (W : c_W) (h : g_P) (n c : Nat) (q : Nat) (h' : g_P) (n' : Nat) : Prop := n ≤ q ∧ q < n' ∧ n' ≤ n + 8 ∧ (∀ z : Nat, z < n → h' z = h z) ∧ h' q = some (g_ob 3 [.null, c_U W, c_V W, .null, .null, .int (nI 0), .int (nI c)])
/-- the answer of a change: e its failure's place in ks -/
def muP (K : g_K) (W : c_W) (lo b : Nat) (h : g_P) (n g e : Nat) (res : Int32) (ρ : Nat → Nat) (α : Nat → Int64) : g_Q := gI fun r h' n' => e = 0 ∧ r = res ∧ bk K W lo n' b ρ α h' ∧ (∀ q : Nat, q < lo → h' q = h q) ∧ n ≤ n' ∧ n' ≤ n + g
def muX (W : c_W) (ks : List Nat) (h : g_P) (n e : Nat) : g_X := fun q h' n' => e ≠ 0 ∧ cfX W h n (ks.getD (e - 1) 0) q h' n'
theorem cf_new {W : c_W} {h : g_P} {n c : Nat} : cfX W h n c n (g_up h n (g_ob 3 [.null, c_U W, c_V W, .null, .null, .int (nI 0), .int (nI c)])) (n + 1) := ⟨Nat.le_refl _, by omega, by omega, fun z hz => g_un (by omega), g_us⟩
section
variable {K : g_K} {W : c_W} {lo hi b t l e n u : Nat} {ρ ρ' : Nat → Nat} {α : Nat → Int64} {h h' : g_P}
theorem bkD_.ext (k : bkD_ K W lo hi t ρ h) (e0 : ρ' 0 = ρ 0) (e1 : ∀ i, i < ρ 0 → fc ρ' i = fc ρ i) : bkD_ K W lo hi t ρ' h := by
  obtain ⟨h1, N, F, mc, nk, h2, h3, h4⟩ := k
  exact ⟨h1, N, F, mc, nk, by rw [e0]; exact h2, h3, fun i hi => by rw [e0] at hi; rw [e1 i hi]; exact h4 i hi⟩
theorem bkB_.ext (k : bkB_ K W lo hi l e ρ h) (e0 : ρ' 1 = ρ 1) (e1 : ∀ i, i < ρ 1 → bw ρ' i = bw ρ i) : bkB_ K W lo hi l e ρ' h := by
  obtain ⟨h1, h2, h3, m, B, h4, h5⟩ := k
  exact ⟨h1, h2, h3, m, B, by rw [e0]; exact h4, fun i hi => by rw [e0] at hi; rw [e1 i hi, e0]; exact h5 i hi⟩
theorem bkL_.ext (k : bkL_ K W lo hi l e ρ h) (e0 : ρ' 2 = ρ 2) (e1 : ∀ i, i < ρ 2 → lf ρ' i = lf ρ i) : bkL_ K W lo hi l e ρ' h := by
  obtain ⟨h1, h2, h3, m, B, h4, h5⟩ := k
  exact ⟨h1, h2, h3, m, B, by rw [e0]; exact h4, fun i hi => by rw [e0] at hi; rw [e1 i hi, e0]; exact h5 i hi⟩
theorem inR.mono {lo hi hi' a : Nat} (h : inR lo hi a) (z : hi ≤ hi') : inR lo hi' a := ⟨h.1, Nat.lt_of_lt_of_le h.2 z⟩
theorem bkD_.mono {hi' : Nat} (k : bkD_ K W lo hi t ρ h) (z : hi ≤ hi') : bkD_ K W lo hi' t ρ h := by
  obtain ⟨h1, N, F, mc, nk, h2, h3, h4⟩ := k
  exact ⟨h1.mono z, N, F, mc, nk, h2, h3.imp id (fun ⟨s, a, b, c⟩ => ⟨s, a, Nat.lt_of_lt_of_le b z, c⟩), fun i hi => ⟨(h4 i hi).1, Nat.lt_of_lt_of_le (h4 i hi).2.1 z, (h4 i hi).2.2.mono z⟩⟩
theorem bkB_.mono {hi' : Nat} (k : bkB_ K W lo hi l e ρ h) (z : hi ≤ hi') : bkB_ K W lo hi' l e ρ h := by
  obtain ⟨h1, h2, h3, m, B, h4, h5⟩ := k
  exact ⟨h1.mono z, h2.imp id (fun q => q.mono z), Nat.lt_of_lt_of_le h3 z, m, B, h4, fun i hi => ⟨(h5 i hi).1, (h5 i hi).2.1.mono z, (h5 i hi).2.2⟩⟩
theorem bkL_.mono {hi' : Nat} (k : bkL_ K W lo hi l e ρ h) (z : hi ≤ hi') : bkL_ K W lo hi' l e ρ h := by
  obtain ⟨h1, h2, h3, m, B, h4, h5⟩ := k
  exact ⟨h1.mono z, h2.imp id (fun q => q.mono z), Nat.lt_of_lt_of_le h3 z, m, B, h4, fun i hi => ⟨(h5 i hi).1, (h5 i hi).2.1.mono z, (h5 i hi).2.2⟩⟩
theorem bk.mono {hi' : Nat} (k : bk K W lo hi b ρ α h) (z : hi ≤ hi') : bk K W lo hi' b ρ α h := by
  obtain ⟨k1, k2, k3, t, lb, eb, ll, el, k4, k5, k6, k7, k8⟩ := k
  exact ⟨k1, Nat.le_trans k2 z, k3.mono z, t, lb, eb, ll, el, k4, k5.mono z, k6.mono z, k7.mono z, k8⟩
/-- the bakery's own cell written: the parts behind it stay -/
theorem bk.own {α' : Nat → Int64} (k : bk K W lo hi b ρ α h) (w : wB u ρ) (e : ∀ q, ¬ (q = 3 ∨ q = 4 ∨ q = 5) → ρ' q = ρ q) {c : g_C} (hc : ∀ t lb ll, h b = some (bkO b t lb ll ρ α) → c = bkO b t lb ll ρ' α') : bk K W lo hi b ρ' α' (g_up h b c) := by
  have wb := w.b
  obtain ⟨k1, k2, k3, t, lb, eb, ll, el, k4, k5, k6, k7, k8⟩ := k
  have f : ∀ z : Nat, ∀ c', h z = some c' → (∀ vs, c' ≠ g_ob 1 vs) → z ≠ b := fun z c' q1 q2 q3 => by
    rw [q3, k4] at q1
    exact q2 _ (Option.some.inj q1).symm
  refine ⟨k1, k2, k3, t, lb, eb, ll, el, by rw [g_us, hc _ _ _ k4], ?_, ?_, ?_, k8⟩
  · obtain ⟨h1, N, F, mc, nk, h2, h3, h4⟩ := k5.ext (ρ' := ρ') (e 0 (by omega)) (fun i hi => by unfold fc; rw [e _ (by omega), e _ (by omega)])
    have h20 := h2
    obtain ⟨⟨tt, hm, sN, -⟩, -⟩ := h20
    refine ⟨h1, N, F, mc, nk, h2.keep (g_un (f _ _ hm (by intro vs z; simp [g_ob] at z))) (fun z hz => g_un ?_), ?_, fun i hi => ⟨by rw [g_un (f _ _ (h4 i hi).1 (by intro vs z; simp [fc, g_ob] at z))]; exact (h4 i hi).1, (h4 i hi).2⟩⟩
    · obtain ⟨L1, L2, e2⟩ := List.append_of_mem hz
      obtain ⟨j, A1, A2, B1, B2, l, r, q, c, -, -, ea, -⟩ := sN.foc (a := z.1) (kk := z.2.1) (v := z.2.2) e2 (k := 0) (A := []) (B := []) (t := tt) ⟨rfl, rfl, rfl, rfl⟩
      exact f _ _ ea (by intro vs z; simp [nC, g_ob] at z)
    · rcases h3 with h3 | ⟨s, h3, h5, h6⟩
      · exact Or.inl h3
      · exact Or.inr ⟨s, h3, h5, by rw [g_un (f _ _ h6 (by intro vs z; simp [g_ob] at z))]; exact h6⟩
  · obtain ⟨h1, h2, h3, m, B, h4, h5⟩ := k6.ext (ρ' := ρ') (e 1 (by omega)) (fun i hi => by unfold bw; rw [e _ (by omega), e _ (by omega)])
    have h40 := h4
    obtain ⟨q1, r, q2, -⟩ := h40
    exact ⟨h1, h2, h3, m, B, h4.of (g_un (f _ _ q1 (by intro vs z; simp [g_ob] at z))) (g_un (f _ _ q2 (by intro vs z; simp [g_ob, g_ar] at z))), fun i hi => ⟨by rw [g_un (f _ _ (h5 i hi).1 (by intro vs z; simp [bw, g_ob] at z))]; exact (h5 i hi).1, (h5 i hi).2⟩⟩
  · obtain ⟨h1, h2, h3, m, B, h4, h5⟩ := k7.ext (ρ' := ρ') (e 2 (by omega)) (fun i hi => by unfold lf; rw [e _ (by omega), e _ (by omega), e _ (by omega)])
    have h40 := h4
    obtain ⟨q1, r, q2, -⟩ := h40
    exact ⟨h1, h2, h3, m, B, h4.of (g_un (f _ _ q1 (by intro vs z; simp [g_ob] at z))) (g_un (f _ _ q2 (by intro vs z; simp [g_ob, g_ar] at z))), fun i hi => ⟨by rw [g_un (f _ _ (h5 i hi).1 (by intro vs z; simp [lf, g_ob] at z))]; exact (h5 i hi).1, (h5 i hi).2⟩⟩
theorem k_setOvens2 (w0 : cOK K W) (k : bk K W lo n b ρ α h) (w : wB u ρ) {p : Int32} : g_Met K mX2_setOvens 8 1 7 [.ref b, .int p] h n (muP K W lo b h n 1 (eOv p) (nI (ρ 5)) (fup ρ 5 (tN p)) α) (muX W [97] h n (eOv p)) := by
  have k0 := k
  obtain ⟨k1, k2, k3, t, lb, eb, ll, el, k4, k5, k6, k7, k8⟩ := k
  have hv : nB (nI 1 ≤ p ∧ p ≤ nI 3) = nB (bt p 1 3) := nB_iff (bt_iff (by omega) (by omega))
  refine g_Met.of (M := mX2_setOvens) (L := [some (.ref b), some (.int p), none]) (by decide +kernel) (Nat.le_of_ble_eq_true rfl) rfl ?_
  refine r_iload1 dX2_setOvens_0 ?_
  refine r_iconst (v := nI 1) dX2_setOvens_1 (by decide) ?_
  refine r_iconst (v := nI 3) dX2_setOvens_2 (by decide) ?_
  refine r_callSN (M' := mX1_isBetween) _ dX2_setOvens_3 q2151 q2152 rfl (lw_all_tbl q2153) q125 (by exact pl_X1_isBetween)  (k_isBetween1) (by omega) (Nat.le_of_ble_eq_true rfl) (by omega) (by omega) rfl (Nat.le_of_ble_eq_true rfl) rfl (kI fun r3 h3 n3 e3 => ?_) kN
  obtain ⟨q9, q8, q7⟩ := e3; have q9 := q9.symm; have q8 := q8.symm; have q7 := q7.symm; subst q9; subst q8; subst q7
  refine r_bipush (v := nI 97) dX2_setOvens_6 (by decide) ?_
  rw [hv]
  refine r_callSN (M' := mX1_demand) _ dX2_setOvens_8 q2154 q2155 rfl (lw_all_tbl q2156) q125 (by exact pl_X1_demand)  ((k_demand (p := bt p 1 3) (c := 97) rfl (by decide) w0)) (by omega) (Nat.le_of_ble_eq_true rfl) (by omega) (by omega) rfl (Nat.le_of_ble_eq_true rfl) rfl (kV fun h8 n8 e8 => ?_) (fun q h' n' hx => r_out (by intro x hx; cases hx) (by obtain ⟨z1, rfl, rfl, rfl⟩ := hx; exact ⟨by unfold eOv; rw [if_neg z1]; decide, by unfold eOv; rw [if_neg z1]; exact cf_new⟩))
  obtain ⟨e8, q8, q7⟩ := e8; have q8 := q8.symm; have q7 := q7.symm; subst q8; subst q7
  refine r_aload0 dX2_setOvens_11 ?_
  refine f_X2_36_X2 dX2_setOvens_12 k4 ?_
  refine r_istore2 dX2_setOvens_15 ?_
  refine r_aload0 dX2_setOvens_16 ?_
  refine r_iload1 dX2_setOvens_17 ?_
  refine p_X2_36_X2 dX2_setOvens_18 (by omega) k4 ?_
  refine r_iload2 dX2_setOvens_21 ?_
  exact r_ireturn dX2_setOvens_22 rfl rfl (⟨by unfold eOv; rw [if_pos e8], rfl, k0.own w (fun q hq => fup_n (by omega)) (fun t' lb' ll' hh => by have e9 := Option.some.inj (k4.symm.trans hh); simp [bkO, g_ob] at e9; obtain ⟨rfl, rfl, rfl⟩ := e9; show _ = bkO b t lb ll (fup ρ 5 (tN p)) α; unfold bkO; rw [fup_s, fup_n (by decide), fup_n (by decide), ← nI_tN (by have := e8.1; omega)]), fun q hq => g_un (by have := k3.1; omega), Nat.le_refl _, Nat.le_succ _⟩)
end
