/-! key sets of frozen maps: the cached key set is all that changes -/
set_option maxRecDepth 100000
/-- what is there stays, but for a map's cached key set -/
def stab (n : Nat) (h : g_P) (n' : Nat) (h' : g_P) : Prop := n ≤ n' ∧ ∀ (q : Nat) (c : g_C), h q = some c → h' q = some c ∨ ∃ (t z y : Value) (s : Nat), c = trM t z y .null ∧ h' q = some (trM t z y (.ref s)) ∧ s < n' ∧ h' s = some (g_ob 25 [.ref q])
theorem stab.rf {n : Nat} {h : g_P} : stab n h n h := ⟨Nat.le_refl _, fun q c hq => Or.inl hq⟩
theorem stab.eq {n n' : Nat} {h h' : g_P} (hn : n ≤ n') (f2 : ∀ (a : Nat) (c : g_C), h a = some c → a < n) (e : ∀ q : Nat, q < n → h' q = h q) : stab n h n' h' := ⟨hn, fun q c hq => Or.inl ((e q (f2 q c hq)).trans hq)⟩
theorem stab.ob {n n' q k : Nat} {vs : List Value} {h h' : g_P} (s : stab n h n' h') (hq : h q = some (g_ob k vs)) (hk : k ≠ 17) : h' q = some (g_ob k vs) := by
  rcases s.2 q _ hq with e | ⟨t, z, y, s', e, -⟩
  · exact e
  · exact absurd (obj_inj (congrArg some e)) hk
theorem stab.ar {n n' q k : Nat} {vs : List Value} {h h' : g_P} (s : stab n h n' h') (hq : h q = some (g_ar k vs)) : h' q = some (g_ar k vs) := by
  rcases s.2 q _ hq with e | ⟨t, z, y, s', e, -⟩
  · exact e
  · exact absurd (congrArg some e.symm) obj_arr
theorem stab.tr {n n1 n2 : Nat} {h h1 h2 : g_P} (s : stab n h n1 h1) (s' : stab n1 h1 n2 h2) : stab n h n2 h2 := by
  refine ⟨Nat.le_trans s.1 s'.1, fun q c hq => ?_⟩
  rcases s.2 q c hq with e | ⟨t, z, y, s1, e1, e2, e3, e4⟩
  · exact s'.2 q c e
  · refine Or.inr ⟨t, z, y, s1, e1, ?_, Nat.lt_of_lt_of_le e3 s'.1, s'.ob e4 (by decide)⟩
    rcases s'.2 q _ e2 with e | ⟨t', z', y', s1', e, -⟩
    · exact e
    · simp [trM, g_ob] at e
theorem stab.updO {n n1 n2 : Nat} {h h1 h2 : g_P} (s : stab n h n1 h1) (f2 : ∀ (a : Nat) (c : g_C), h a = some c → a < n) (h12 : n1 ≤ n2) (e : ∀ q : Nat, q < n → h2 q = h1 q) (e25 : ∀ (q : Nat) (vs : List Value), h1 q = some (g_ob 25 vs) → h2 q = h1 q) : stab n h n2 h2 := by
  refine ⟨Nat.le_trans s.1 h12, fun q c hq => ?_⟩
  have hq2 := f2 _ _ hq
  rcases s.2 q c hq with e1 | ⟨t, z, y, s1, e1, e2, e3, e4⟩
  · exact Or.inl ((e q hq2).trans e1)
  · exact Or.inr ⟨t, z, y, s1, e1, (e q hq2).trans e2, Nat.lt_of_lt_of_le e3 h12, (e25 _ _ e4).trans e4⟩
theorem stab.upd {n n1 it : Nat} {h h1 h2 : g_P} (s : stab n h n1 h1) (f2 : ∀ (a : Nat) (c : g_C), h a = some c → a < n) (hit : n ≤ it) (hc : ∃ vs, h1 it = some (g_ob 26 vs)) (e : ∀ q : Nat, q ≠ it → h2 q = h1 q) : stab n h n1 h2 := by
  refine ⟨s.1, fun q c hq => ?_⟩
  have hq2 := f2 _ _ hq
  rcases s.2 q c hq with e1 | ⟨t, z, y, s1, e1, e2, e3, e4⟩
  · exact Or.inl ((e q (by omega)).trans e1)
  · refine Or.inr ⟨t, z, y, s1, e1, (e q (by omega)).trans e2, e3, (e s1 fun z => ?_).trans e4⟩
    obtain ⟨vs, hc⟩ := hc
    rw [z, hc] at e4
    exact absurd (obj_inj e4) (by decide)
section
variable {K : g_K} {W : c_W} {lo hi b n n' t l e u it : Nat} {ρ : Nat → Nat} {α : Nat → Int64} {h h' : g_P}
theorem tm.stab {mp : Nat} {L : List c_N} {mc : Int32} {nk : Value} (s : stab n h n' h') (T : tm K mp L mc nk h) : ∃ nk', tm K mp L mc nk' h' ∧ (nk' = nk ∨ nk = .null ∧ ∃ k, nk' = .ref k ∧ k < n' ∧ h' k = some (g_ob 25 [.ref mp])) := by
  have nd : ∀ z ∈ L, h' z.1 = h z.1 := fun z hz => by
    obtain ⟨vs, e⟩ := T.node hz
    rw [e]
    exact s.ob e (by decide)
  have T0 := T
  obtain ⟨⟨tt, e1, sN, rb⟩, T2⟩ := T
  rcases s.2 _ _ e1 with e | ⟨t', z, y, k, e, e2, e3, e4⟩
  · exact ⟨nk, T0.keep (e.trans e1.symm) nd, Or.inl rfl⟩
  · have e9 : tt = t' ∧ Value.int (nI L.length) = z ∧ Value.int mc = y ∧ nk = .null := by simpa [trM, g_ob] using e
    obtain ⟨rfl, rfl, rfl, rfl⟩ := e9
    refine ⟨.ref k, ⟨⟨tt, e2, sN.keep nd, fun x kk v l r q c q1 q2 => ?_⟩, T2⟩, Or.inr ⟨rfl, k, rfl, e3, e4⟩⟩
    subst q1
    obtain ⟨k2, v2, l2, r2, c2, A, B, rfl, q4, -⟩ := sN.mem
    rw [nd (x, k2, v2) (by simp)] at q2
    exact rb _ _ _ _ _ _ _ rfl q2
theorem bkD_.stab (s : stab n h n' h') (hh : hi ≤ n) (k : bkD_ K W lo hi t ρ h) : bkD_ K W lo n' t ρ h' := by
  have hn := s.1
  obtain ⟨h1, N, F, mc, nk, T, h3, h4⟩ := k
  obtain ⟨nk', T', h5⟩ := T.stab s
  have hn' : hi ≤ n' := Nat.le_trans hh hn
  refine ⟨h1.mono hn', N, F, mc, nk', T', ?_, fun i hi2 => ⟨s.ob (h4 i hi2).1 (by decide), Nat.lt_of_lt_of_le (h4 i hi2).2.1 hn', (h4 i hi2).2.2.mono hn'⟩⟩
  rcases h5 with rfl | ⟨-, k, h6, h7, h8⟩
  · rcases h3 with h3 | ⟨k, h6, h7, h8⟩
    · exact Or.inl h3
    · exact Or.inr ⟨k, h6, Nat.lt_of_lt_of_le h7 hn', s.ob h8 (by decide)⟩
  · exact Or.inr ⟨k, h6, h7, h8⟩
theorem lsT.stab {m : Int32} {vs : List Value} (s : stab n h n' h') (l0 : lsT K W l e m vs h) : lsT K W l e m vs h' := by
  have l1 := l0
  obtain ⟨l2, r, l3, l4⟩ := l1
  exact l0.of ((s.ob l2 (by decide)).trans l2.symm) ((s.ar l3).trans l3.symm)
theorem bkB_.stab (s : stab n h n' h') (hh : hi ≤ n) (k : bkB_ K W lo hi l e ρ h) : bkB_ K W lo n' l e ρ h' := by
  have hn := s.1
  obtain ⟨h1, h2, h3, m, B, h4, h5⟩ := k.mono (hi' := n') (by omega)
  exact ⟨h1, h2, h3, m, B, h4.stab s, fun i hi => ⟨s.ob (h5 i hi).1 (by decide), (h5 i hi).2⟩⟩
theorem bkL_.stab (s : stab n h n' h') (hh : hi ≤ n) (k : bkL_ K W lo hi l e ρ h) : bkL_ K W lo n' l e ρ h' := by
  have hn := s.1
  obtain ⟨h1, h2, h3, m, B, h4, h5⟩ := k.mono (hi' := n') (by omega)
  exact ⟨h1, h2, h3, m, B, h4.stab s, fun i hi => ⟨s.ob (h5 i hi).1 (by decide), (h5 i hi).2⟩⟩
/-- a bakery stays a bakery -/
theorem bk.stab (s : stab n h n' h') (hh : hi ≤ n) (k : bk K W lo hi b ρ α h) : bk K W lo n' b ρ α h' := by
  have hn := s.1
  obtain ⟨k1, k2, k3, t, lb, eb, ll, el, k4, k5, k6, k7, k8⟩ := k
  exact ⟨k1, by omega, k3.mono (by omega), t, lb, eb, ll, el, s.ob k4 (by decide), k5.stab s hh, k6.stab s hh, k7.stab s hh, k8⟩
/-- the doughs' map: its nodes N, its fractions F -/
def dM (K : g_K) (W : c_W) (t : Nat) (ρ N F : Nat → Nat) (mc : Int32) (h : g_P) : Prop := ∃ nk, tm K t (dlist W (ρ 0) N F) mc nk h ∧ (nk = .null ∨ ∃ s, nk = .ref s ∧ h s = some (g_ob 25 [.ref t]))
variable {N F : Nat → Nat} {mc : Int32}
theorem bkD_.dM (k : bkD_ K W lo hi t ρ h) : ∃ N F mc, dM K W t ρ N F mc h ∧ (∀ i, i < ρ 0 → N i < hi) ∧ inR lo hi t := by
  obtain ⟨h1, N, F, mc, nk, T, h3, h4⟩ := k
  exact ⟨N, F, mc, ⟨nk, T, h3.imp id fun ⟨s, a, b, c⟩ => ⟨s, a, c⟩⟩, fun i hi => (h4 i hi).2.2.2, h1⟩
theorem dM.stab (s : stab n h n' h') (d : dM K W t ρ N F mc h) : dM K W t ρ N F mc h' := by
  obtain ⟨nk, T, h3⟩ := d
  obtain ⟨nk', T', h5⟩ := T.stab s
  refine ⟨nk', T', ?_⟩
  rcases h5 with rfl | ⟨-, k, h6, h7, h8⟩
  · exact h3.imp id fun ⟨k, a, b⟩ => ⟨k, a, s.ob b (by decide)⟩
  · exact Or.inr ⟨k, h6, h8⟩
theorem dM.cell (d : dM K W t ρ N F mc h) : ∃ vs, h t = some (g_ob 17 vs) := by
  obtain ⟨nk, ⟨⟨tt, hm, -⟩, -⟩, h3⟩ := d
  exact ⟨_, hm⟩
/-- the map's own cells stay -/
theorem dM.keep (d : dM K W t ρ N F mc h) (e : h' t = h t) (f : ∀ i, i < ρ 0 → h' (N i) = h (N i)) (f5 : ∀ (q : Nat) (vs : List Value), h q = some (g_ob 25 vs) → h' q = h q) : dM K W t ρ N F mc h' := by
  obtain ⟨nk, T, h3⟩ := d
  exact ⟨nk, T.keep e (fun z hz => by obtain ⟨i, hi, rfl⟩ := dlist_mem hz; exact f i hi), h3.imp id fun ⟨k, a, b⟩ => ⟨k, a, (f5 _ _ b).trans b⟩⟩
/-- a key set of the doughs -/
theorem k_dKeys (d : dM K W t ρ N F mc h) (bm : k_b K ≤ t) : g_Met K mJ1_keySet 5 1 1 [.ref t] h n (gA fun r h' n' => ∃ s, r = .ref s ∧ h' s = some (g_ob 25 [.ref t]) ∧ stab n h n' h' ∧ (∀ q : Nat, q < n → q ≠ t → h' q = h q) ∧ n ≤ n' ∧ n' ≤ n + 1) gN := by
  refine g_Met.facts fun f1 f2 f3 => ?_
  obtain ⟨nk, T, h3⟩ := d
  refine (k_keySet bm T h3).mono (fun v h' n' hq => ?_) (fun q h' n' hx => hx)
  obtain ⟨r, hr, tr, s, rfl, T1, z1, z2, z3, z4, z5, z6, z7⟩ := hq
  have st : stab n h n' h' := by
    rcases z7 with rfl | ⟨tt, e1, e2, e3, e4⟩
    · exact stab.eq z3 f2 fun q _ => rfl
    · refine ⟨z3, fun q c hq => ?_⟩
      by_cases z : q = t
      · rw [z, e1] at hq
        rw [z]
        exact Or.inr ⟨tt, _, _, s, (Option.some.inj hq).symm, e2, e4, z1⟩
      · exact Or.inl ((z2 q (f2 _ _ hq) z).trans hq)
  exact ⟨_, hr, tr, s, rfl, z1, st, z2, z3, z4⟩
/-- an iterator over the doughs' keys: j have been passed -/
def dIt (K : g_K) (W : c_W) (t : Nat) (ρ N F : Nat → Nat) (mc : Int32) (j it : Nat) (h : g_P) : Prop := dM K W t ρ N F mc h ∧ (∃ v1, h it = some (g_ob 26 [hdV ((dlist W (ρ 0) N F).drop j), v1, .int mc, .ref t])) ∧ j ≤ ρ 0
theorem dIt.cell {j : Nat} (d : dIt K W t ρ N F mc j it h) : ∃ vs, h it = some (g_ob 26 vs) := by
  obtain ⟨dm, ⟨v1, hi⟩, hj⟩ := d
  exact ⟨_, hi⟩
theorem dIt.stab {j : Nat} (s : stab n h n' h') (d : dIt K W t ρ N F mc j it h) : dIt K W t ρ N F mc j it h' := by
  obtain ⟨dm, ⟨v1, hi⟩, hj⟩ := d
  exact ⟨dm.stab s, ⟨v1, s.ob hi (by decide)⟩, hj⟩
theorem dIt.keep {j : Nat} (d : dIt K W t ρ N F mc j it h) (e : h' t = h t) (f : ∀ i, i < ρ 0 → h' (N i) = h (N i)) (f5 : ∀ (q : Nat) (vs : List Value), h q = some (g_ob 25 vs) → h' q = h q) (e2 : h' it = h it) : dIt K W t ρ N F mc j it h' := by
  obtain ⟨dm, ⟨v1, hi⟩, hj⟩ := d
  exact ⟨dm.keep e f f5, ⟨v1, e2.trans hi⟩, hj⟩
theorem k_dIter {s : Nat} (d : dM K W t ρ N F mc h) (hs : h s = some (g_ob 25 [.ref t])) : g_Met K mJ24_iterator 4 1 4 [.ref s] h n (gA fun r h' n' => r = .ref n ∧ dIt K W t ρ N F mc 0 n h' ∧ (∀ q : Nat, q < n → h' q = h q) ∧ n' = n + 1) gN := by
  refine g_Met.facts fun f1 f2 f3 => ?_
  have d0 := d
  obtain ⟨nk, T, h3⟩ := d
  refine (k_J24_iterator T hs).mono (fun v h' n' hq => ?_) (fun q h' n' hx => hx)
  obtain ⟨r, hr, tr, rfl, rfl, rfl⟩ := hq
  exact ⟨_, hr, tr, rfl, ⟨d0.stab (stab.eq (Nat.le_succ n) f2 fun q hq => g_un (by omega)), ⟨_, g_us⟩, Nat.zero_le _⟩, fun q hq => g_un (by omega), rfl⟩
theorem k_dHas {j : Nat} (d : dIt K W t ρ N F mc j it h) : g_Met K mJ25_hasNext 0 0 0 [.ref it] h n (gI fun r h' n' => r = nB (j < ρ 0) ∧ h' = h ∧ n' = n) gN := by
  obtain ⟨dm, ⟨v1, hi⟩, hj⟩ := d
  refine (k_J25_hasNext hi).mono (fun v h' n' hq => ?_) (fun q h' n' hx => hx)
  obtain ⟨x, hx, rfl, h2, h3⟩ := hq
  refine ⟨_, hx, nB_iff ?_, h2, h3⟩
  rw [Ne, List.drop_eq_nil_iff, dlist_len]
  omega
theorem dlist_drop {m j : Nat} {N F : Nat → Nat} (hj : j < m) : (dlist W m N F).drop j = (N j, .ref (c_i W j), .ref (F j)) :: (dlist W m N F).drop (j + 1) := by
  rw [List.drop_eq_getElem_cons (by rw [dlist_len]; exact hj)]
  simp [dlist]
theorem k_dNext {j : Nat} (d : dIt K W t ρ N F mc j it h) (hb : k_b K ≤ it) (hj : j < ρ 0) : g_Met K mJ26_next 2 0 0 [.ref it] h n (gA fun r h' n' => r = .ref (c_i W j) ∧ dIt K W t ρ N F mc (j + 1) it h' ∧ (∀ q : Nat, q ≠ it → h' q = h q) ∧ n' = n) gN := by
  obtain ⟨dm, ⟨v1, hi⟩, -⟩ := d
  have dm0 := dm
  obtain ⟨nk, T, h3⟩ := dm
  have T0 := T
  rw [← List.take_append_drop j (dlist W (ρ 0) N F), dlist_drop hj] at T
  rw [dlist_drop hj] at hi
  refine (k_J26_next T hb hi (Or.inr ⟨_, rfl⟩)).mono (fun v h' n' hq => ?_) (fun q h' n' hx => hx)
  obtain ⟨r, hr, tr, rfl, rfl, rfl⟩ := hq
  have ne : ∀ (q k : Nat) (vs : List Value), h q = some (g_ob k vs) → k ≠ 26 → q ≠ it := fun q k vs q1 q2 z => by
    rw [z, hi] at q1
    exact q2 (obj_inj q1).symm
  obtain ⟨tvs, hm⟩ := dm0.cell
  refine ⟨_, hr, tr, rfl, ⟨dm0.keep (g_un (ne _ _ _ hm (by decide))) (fun i hi2 => ?_) (fun q vs q1 => g_un (ne _ _ _ q1 (by decide))), ⟨_, g_us⟩, hj⟩, fun q hq => g_un hq, rfl⟩
  have hz : (N i, .ref (c_i W i), .ref (F i)) ∈ dlist W (ρ 0) N F := List.mem_map.mpr ⟨i, List.mem_range.mpr hi2, rfl⟩
  obtain ⟨vs, e⟩ := T0.node hz
  exact g_un (ne _ _ _ e (by decide))
end
