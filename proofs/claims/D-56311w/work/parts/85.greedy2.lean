/-! baking greedily: the walks -/
set_option maxRecDepth 100000
theorem srM_len {ρ : Nat → Nat} (hb : ∀ i, i < ρ 2 → ρ (33 + 3 * i) ≤ 60) {k : Nat} (hk : k ≤ 60) : (srM ρ k).length ≤ ρ 2 := by
  have := (srM_perm hb k hk).length_eq
  rw [List.length_append, List.length_range] at this
  omega
theorem flM_len {ρ : Nat → Nat} {m : Nat} : ∀ j, (flM ρ m j).length ≤ j := by
  intro j
  have := List.length_filter_le (fun i => decide (ρ (33 + 3 * i) = m)) (List.range j)
  rw [List.length_range] at this
  exact this
section
variable {K : g_K} {W : c_W} {lo hi b n u ll el s : Nat} {ρ : Nat → Nat} {α : Nat → Int64} {h : g_P}
theorem k_longestFirst {mb : Int32} {G : Nat → Nat} (lT : lsT K W ll el mb (blist (ρ 2) G) h) (hG : ∀ i, i < ρ 2 → h (G i) = some (lf ρ i)) (w : wB u ρ) (ho : h s = some (baO ll ρ)) : g_Met K mX12_longestFirst 4 62 260 [.ref s] h n (gA fun r h' n' => r = .ref n ∧ dqT K n (n + 1) ((srM ρ 60).map fun i => Value.ref (G i)) h' ∧ (∀ q : Nat, q < n → h' q = h q) ∧ n' = n + 62) gN := by
  refine g_Met.facts fun f1 f2 f3 => ?_
  have wb := w.b
  have sn := f2 _ _ ho
  have lb : ∀ i, i < ρ 2 → ρ (33 + 3 * i) ≤ 60 := fun i hi => (w.l hi).2.2.2.1
  have lT0 := lT
  obtain ⟨l1, lr, l2, l3⟩ := lT0
  have lln := f2 _ _ l1
  have eln := f2 _ _ l2
  have outer : ∀ (g k : Nat) (o3 o4 : Option Value) (h1 : g_P) (n1 : Nat), k + g = 60 → n1 = n + 2 + k → g_c1 o3 → g_c1 o4 → dqT K n (n + 1) ((srM ρ k).map fun i => Value.ref (G i)) h1 → (∀ q : Nat, q < n → h1 q = h q) → g_G K mX12_longestFirst 4 g (4 * g) (gA fun r h' n' => r = .ref n ∧ dqT K n (n + 1) ((srM ρ 60).map fun i => Value.ref (G i)) h' ∧ (∀ q : Nat, q < n → h' q = h q) ∧ n' = n + 62) gN 11 [some (.ref s), some (.ref n), some (.int (nI (60 - k))), o3, o4] [] h1 n1 := by
    intro g
    induction g with
    | zero =>
      intro k o3 o4 h1 n1 hk hn c3 c4 dq fr
      have : k = 60 := by omega
      subst this
      refine r_iload2 dX12_longestFirst_11 ?_
      refine r_if_leN (tgt := 69) dX12_longestFirst_12 (by decide) (by omega) (fun c12 => ?_) (fun c12 => absurd c12 (by omega))
      refine r_aload1 dX12_longestFirst_69 ?_
      exact r_areturn dX12_longestFirst_70 rfl (Or.inl ⟨_, rfl⟩) (Or.inr ⟨_, rfl⟩) (⟨rfl, dq, fr, by omega⟩)
    | succ g ih =>
      intro k o3 o4 h1 n1 hk hn c3 c4 dq fr
      have sl := srM_len lb (k := k) (by omega)
      have inner : ∀ (f j : Nat) (v9 : Value) (o4 : Option Value) (h2 : g_P), j + f = ρ 2 → h2 n1 = some (g_ob 31 [.int (nI j), v9, .int mb, .ref ll]) → dqT K n (n + 1) ((srM ρ k ++ flM ρ (60 - k) j).map fun i => Value.ref (G i)) h2 → (∀ q : Nat, q < n → h2 q = h q) → g_c1 o4 → g_G K mX12_longestFirst 4 g (4 * g) (gA fun r h' n' => r = .ref n ∧ dqT K n (n + 1) ((srM ρ 60).map fun i => Value.ref (G i)) h' ∧ (∀ q : Nat, q < n → h' q = h q) ∧ n' = n + 62) gN 25 [some (.ref s), some (.ref n), some (.int (nI (60 - k))), some (.ref n1), o4] [] h2 (n1 + 1) := by
        intro f
        induction f with
        | zero =>
          intro j v9 o4 h2 hj hi dq2 fr2 c4
          have : j = ρ 2 := by omega
          subst this
          have lT2 := lT.of (h' := h2) (fr2 _ lln) (fr2 _ eln)
          refine r_aload3 dX12_longestFirst_25 ?_
          refine r_callF (M' := mJ33_hasNext) _ dX12_longestFirst_26 q1355 q1357 q1356 rfl q1376 q1378 q1379 q1377 q1375 rfl (lw_all_tbl q1380) q167 (by exact (⟨by decide, by decide, by decide +kernel⟩ : g_pl ⟨"java/util/Iterator", "hasNext", "()Z"⟩ 0)) gc_J33 hi ((k_J33_hasNext lT2 (by rw [blist_len]; exact Nat.le_refl _) hi)) (by omega) (Nat.le_of_ble_eq_true rfl) (by omega) (by omega) rfl (Nat.le_of_ble_eq_true rfl) rfl (kI fun r26 h26 n26 e26 => ?_) kN
          obtain ⟨q9, q8, q7⟩ := e26; have q9 := q9.symm; have q8 := q8.symm; have q7 := q7.symm; subst q9; subst q8; subst q7
          refine r_if_eqB (tgt := 63) dX12_longestFirst_31 (by decide) (fun c31 => ?_) (fun c31 => absurd c31 (by rw [blist_len]; omega))
          refine r_iinc2 dX12_longestFirst_63 (show _ = nI (60 - (k + 1)) by rw [show 60 - k = 60 - (k + 1) + 1 by omega]; exact iim1 _) ?_
          refine r_goto (tgt := 11) dX12_longestFirst_66 (by decide) ?_
          exact ih (k + 1) _ _ _ _ (by omega) (by omega) g_c1r c4 dq2 fr2
        | succ f ihf =>
          intro j v9 o4 h2 hj hi dq2 fr2 c4
          have hjl : j < ρ 2 := by omega
          have lT2 := lT.of (h' := h2) (fr2 _ lln) (fr2 _ eln)
          have gn := f2 _ _ (hG j hjl)
          have e1 : (g_up h2 n1 (g_ob 31 [.int (nI (j + 1)), .int (nI j), .int mb, .ref ll])) (G j) = some (lf ρ j) := by rw [g_un (by omega), fr2 _ gn]; exact hG j hjl
          have dq3 := dq2.of (h' := g_up h2 n1 (g_ob 31 [.int (nI (j + 1)), .int (nI j), .int mb, .ref ll])) (g_un (by omega)) (g_un (by omega))
          have dl := dq3.1
          have fl := @flM_len ρ (60 - k) j
          have wl := w.l hjl
          refine r_aload3 dX12_longestFirst_25 ?_
          refine r_callF (M' := mJ33_hasNext) _ dX12_longestFirst_26 q1355 q1357 q1356 rfl q1376 q1378 q1379 q1377 q1375 rfl (lw_all_tbl q1380) q167 (by exact (⟨by decide, by decide, by decide +kernel⟩ : g_pl ⟨"java/util/Iterator", "hasNext", "()Z"⟩ 0)) gc_J33 hi ((k_J33_hasNext lT2 (by rw [blist_len]; omega) hi)) (by omega) (Nat.le_of_ble_eq_true rfl) (by omega) (by omega) rfl (Nat.le_of_ble_eq_true rfl) rfl (kI fun r26 h26 n26 e26 => ?_) kN
          obtain ⟨q9, q8, q7⟩ := e26; have q9 := q9.symm; have q8 := q8.symm; have q7 := q7.symm; subst q9; subst q8; subst q7
          refine r_if_eqB (tgt := 63) dX12_longestFirst_31 (by decide) (fun c31 => absurd c31 (by rw [blist_len]; omega)) (fun c31 => ?_)
          refine r_aload3 dX12_longestFirst_34 ?_
          refine r_callF (M' := mJ33_next) _ dX12_longestFirst_35 q1397 q1399 q1398 rfl q1505 q1507 q1508 q1506 q1375 rfl (lw_all_tbl q1509) q167 (by exact (⟨by decide, by decide, by decide +kernel⟩ : g_pl ⟨"java/util/Iterator", "next", "()Ljava/lang/Object;"⟩ 0)) gc_J33 hi ((k_J33_next (by omega) (by omega) lT2 (by omega) (blist_at hjl) (Or.inr ⟨_, rfl⟩) hi)) (by omega) (Nat.le_of_ble_eq_true rfl) (by omega) (by omega) rfl (Nat.le_of_ble_eq_true rfl) rfl (kA fun r35 h35 n35 t35 e35 => ?_) kN
          obtain ⟨q9, q8, q7⟩ := e35; have q9 := q9.symm; have q8 := q8.symm; have q7 := q7.symm; subst q9; subst q8; subst q7
          refine r_checkcast dX12_longestFirst_40 gc_X8 q812 (Or.inl rfl) e1 ?_
          refine r_astore4 dX12_longestFirst_43 ?_
          refine r_aload4 dX12_longestFirst_45 ?_
          refine f_X12_31_X8 dX12_longestFirst_47 e1 ?_
          refine r_iload2 dX12_longestFirst_50 ?_
          refine r_icmp_neN (tgt := 60) dX12_longestFirst_51 (by decide) (by omega) (by omega) (fun c51 => ?_) (fun c51 => ?_)
          · refine r_goto (tgt := 25) dX12_longestFirst_60 (by decide) ?_
            exact ihf (j + 1) _ _ _ (by omega) g_us (by rw [flM_s, if_neg c51, List.append_nil]; exact dq3) (fun q hq => by rw [g_un (by omega)]; exact fr2 q hq) g_c1r
          · refine r_aload1 dX12_longestFirst_54 ?_
            refine r_aload4 dX12_longestFirst_55 ?_
            refine r_callV (M' := mJ32_addLast) _ dX12_longestFirst_57 q1548 q1549 q1550 rfl (lw_all_tbl q1551) q166 (by exact pl_J32_addLast) gc_J32 dl ((k_J32_addLast (by omega) dq3 (by rw [List.length_map, List.length_append]; omega) gc_X8 q4052 e1)) (by omega) (Nat.le_of_ble_eq_true rfl) (by omega) (by omega) rfl (Nat.le_of_ble_eq_true rfl) rfl (kV fun h57 n57 e57 => ?_) kN
            obtain ⟨d1, d2, rfl⟩ := e57
            refine r_goto (tgt := 25) dX12_longestFirst_60 (by decide) ?_
            exact ihf (j + 1) _ _ _ (by omega) ((d2 _ (by omega) (by omega)).trans g_us) (by rw [flM_s, if_pos (by omega), ← List.append_assoc, List.map_append]; exact d1) (fun q hq => by rw [d2 q (by omega) (by omega), g_un (by omega)]; exact fr2 q hq) g_c1r
      have ho1 := (fr s sn).trans ho
      have lT1 := lT.of (h' := h1) (fr _ lln) (fr _ eln)
      refine r_iload2 dX12_longestFirst_11 ?_
      refine r_if_leN (tgt := 69) dX12_longestFirst_12 (by decide) (by omega) (fun c12 => absurd c12 (by omega)) (fun c12 => ?_)
      refine r_aload0 dX12_longestFirst_15 ?_
      refine f_X12_9_X12 dX12_longestFirst_16 ho1 ?_
      refine r_callF (M' := mJ4_iterator) _ dX12_longestFirst_19 q1242 q1244 q1243 rfl q1245 q1247 q1248 q1246 q414 rfl (lw_all_tbl q1249) q131 (by exact (⟨by decide, by decide, by decide +kernel⟩ : g_pl ⟨"java/util/List", "iterator", "()Ljava/util/Iterator;"⟩ 0)) gc_J4 lT1.1 ((k_J4_iterator lT1)) (by omega) (Nat.le_of_ble_eq_true rfl) (by omega) (by omega) rfl (Nat.le_of_ble_eq_true rfl) rfl (kA fun r19 h19 n19 t19 e19 => ?_) kN
      obtain ⟨q9, q8, q7⟩ := e19; have q9 := q9.symm; have q8 := q8.symm; have q7 := q7.symm; subst q9; subst q8; subst q7
      refine r_astore3 dX12_longestFirst_24 ?_
      exact inner (ρ 2) 0 _ _ _ (by omega) g_us (by rw [show flM ρ (60 - k) 0 = [] from rfl, List.append_nil]; exact dq.of (g_un (by omega)) (g_un (by omega))) (fun q hq => by rw [g_un (by omega)]; exact fr q hq) c4
  refine g_Met.of (M := mX12_longestFirst) (L := [some (.ref s), none, none, none, none]) (by decide +kernel) (Nat.le_of_ble_eq_true rfl) rfl ?_
  refine n_X12_77 dX12_longestFirst_0 (by omega) (by omega) ?_
  refine r_dup dX12_longestFirst_3 ?_
  refine r_callI (M' := mJ32_init) _ dX12_longestFirst_4 q1224 q1225 rfl rfl rfl (lw_all_tbl q1226) q166 (by exact pl_J32_init)  ((k_J32_init (q := n) (n := n + 1) f1 g_us)) (by omega) (Nat.le_of_ble_eq_true rfl) (by omega) (by omega) rfl (Nat.le_of_ble_eq_true rfl) rfl (kV fun h4 n4 e4 => ?_) kN
  obtain ⟨z1, z2, rfl⟩ := e4
  refine r_astore1 dX12_longestFirst_7 ?_
  refine r_bipush (v := nI 60) dX12_longestFirst_8 (by decide) ?_
  refine r_istore2 dX12_longestFirst_10 ?_
  refine g_bud (bc' := 60) (bs' := 4 * 60) (by omega) (by omega) (Nat.le_refl _) (outer 60 0 none none _ _ (by omega) (by omega) g_c1n g_c1n z1 (fun q hq => by rw [z2 q (by omega) (by omega), g_un (by omega)]))
/-! the ovens -/
/-- the number of the oven at a -/
def wtO (p : Nat) (T : Nat → Nat) (a : Nat) : Nat := 4 * T (a - p) + (a - p)
theorem wtO_at {p i : Nat} {T : Nat → Nat} : wtO p T (p + i) = 4 * T i + i := by
  unfold wtO
  rw [Nat.add_sub_cancel_left]
def oMp (p o : Nat) : List Nat := (List.range o).map fun i => p + i
theorem oMp_mem {p o a : Nat} (h : a ∈ oMp p o) : ∃ i, i < o ∧ a = p + i := by
  obtain ⟨i, hi, rfl⟩ := List.mem_map.mp h
  exact ⟨i, List.mem_range.mp hi, rfl⟩
theorem oMp_len {p o : Nat} : (oMp p o).length = o := by simp [oMp]
theorem oMp_nd {p o : Nat} : (oMp p o).Nodup := by
  unfold oMp List.Nodup
  rw [List.pairwise_map]
  exact List.pairwise_lt_range.imp fun {a b} h e => by omega
theorem oMp_s {p o : Nat} : oMp p (o + 1) = oMp p o ++ [p + o] := by
  unfold oMp
  rw [List.range_succ, List.map_append]
  rfl
theorem hpL_congr {wt wt' : Nat → Nat} {As : List Nat} (hc : ∀ a ∈ As, wt' a = wt a) (hp : hpL wt As) : hpL wt' As := by
  cases As with
  | nil => exact trivial
  | cons a As =>
    intro x hx
    rw [hc a List.mem_cons_self, hc x (List.mem_cons_of_mem _ hx)]
    exact hp x hx
/-- the ovens at p, their times T -/
def ovS (p o : Nat) (T : Nat → Nat) (h : g_P) : Prop := ∀ i, i < o → h (p + i) = some (g_ob 12 [.int (nI i), .int (nI (T i))])
theorem ovS.at {p o : Nat} {T : Nat → Nat} {h : g_P} (s : ovS p o T h) (ho : o ≤ 3) (hT : ∀ i, T i ≤ 480) {As : List Nat} (hp : ∀ a ∈ As, ∃ i, i < o ∧ a = p + i) : ∀ a ∈ As, ovT h (wtO p T) a := fun a ha => by
  obtain ⟨i, hi, rfl⟩ := hp a ha
  have := hT i
  exact ⟨i, T i, by omega, by omega, s i hi, wtO_at⟩
theorem pqT.of {K : g_K} {q e c : Nat} {m : Int32} {As : List Nat} {h h' : g_P} (p : pqT K q e c m As h) (e1 : h' q = h q) (e2 : h' e = h e) (e3 : h' c = h c) : pqT K q e c m As h' := by
  obtain ⟨p1, ⟨r, p2, p3⟩, p4, p5, p6⟩ := p
  exact ⟨e1.trans p1, ⟨r, e2.trans p2, p3⟩, p4, p5, e3.trans p6⟩
theorem k_greedy12 {mb : Int32} {G : Nat → Nat} (lT : lsT K W ll el mb (blist (ρ 2) G) h) (hG : ∀ i, i < ρ 2 → h (G i) = some (lf ρ i)) (w : wB u ρ) (ho : h s = some (baO ll ρ)) : g_Met K mX12_greedy 7 69 290 [.ref s] h n (gI fun r h' n' => r = nI (grO ρ) ∧ (∀ q : Nat, q < n → h' q = h q) ∧ n ≤ n' ∧ n' ≤ n + 69) gN := by
  refine g_Met.facts fun f1 f2 f3 => ?_
  have wb := w.b
  have sn := f2 _ _ ho
  have lT0 := lT
  obtain ⟨l1, lr, l2, l3⟩ := lT0
  have lln := f2 _ _ l1
  have eln := f2 _ _ l2
  have lb : ∀ i, i < ρ 2 → 1 ≤ ρ (33 + 3 * i) ∧ ρ (33 + 3 * i) ≤ 60 := fun i hi => ⟨(w.l hi).2.2.1, (w.l hi).2.2.2.1⟩
  have sl : (srM ρ 60).length = ρ 2 := by
    have := (srM_all lb).length_eq
    rw [List.length_range] at this
    exact this
  have bake : ∀ (g r : Nat) (As : List Nat) (m : Int32) (v2 : Value) (o4 o5 : Option Value) (h1 : g_P) (it q2 n1 : Nat), r + g = ρ 2 → n + 3 + ρ 5 ≤ q2 → q2 + 1 < it → it < n1 → n1 ≤ n + 69 → g_c1 o4 → g_c1 o5 → pqT K n (n + 2) (n + 1) m As h1 → As.Perm (oMp (n + 3) (ρ 5)) → hpL (wtO (n + 3) (grT ρ r)) As → ovS (n + 3) (ρ 5) (grT ρ r) h1 → dqT K q2 (q2 + 1) ((srM ρ 60).map fun i => Value.ref (G i)) h1 → h1 it = some (g_ob 40 [.int (nI r), .int (nI (((srM ρ 60).map fun i => Value.ref (G i)).length - r)), v2, .ref q2]) → (∀ q : Nat, q < n → h1 q = h q) → g_G K mX12_greedy 7 0 0 (gI fun r h' n' => r = nI (grO ρ) ∧ (∀ q : Nat, q < n → h' q = h q) ∧ n ≤ n' ∧ n' ≤ n + 69) gN 54 [some (.ref s), some (.ref n), some (.int (nI (lg3 (grT ρ r)))), some (.ref it), o4, o5] [] h1 n1 := by
    intro g
    induction g with
    | zero =>
      intro r As m v2 o4 o5 h1 it q2 n1 hr b1 b2 b3 b4 c4 c5 pq pe hp ov dq hi fr
      have : r = ρ 2 := by omega
      subst this
      refine r_aload3 dX12_greedy_54 ?_
      refine r_callF (M' := mJ44_hasNext) _ dX12_greedy_55 q1355 q1357 q1356 rfl q1370 q1372 q1373 q1371 q1369 rfl (lw_all_tbl q1374) q187 (by exact (⟨by decide, by decide, by decide +kernel⟩ : g_pl ⟨"java/util/Iterator", "hasNext", "()Z"⟩ 0)) gc_J44 hi ((k_J44_hasNext (by rw [List.length_map]; omega) hi)) (by omega) (Nat.le_of_ble_eq_true rfl) (by omega) (by omega) rfl (Nat.le_of_ble_eq_true rfl) rfl (kI fun r55 h55 n55 e55 => ?_) kN
      obtain ⟨q9, q8, q7⟩ := e55; have q9 := q9.symm; have q8 := q8.symm; have q7 := q7.symm; subst q9; subst q8; subst q7
      refine r_if_eqB (tgt := 118) dX12_greedy_60 (by decide) (fun c60 => ?_) (fun c60 => absurd c60 (by rw [List.length_map]; omega))
      refine r_iload2 dX12_greedy_118 ?_
      exact r_ireturn dX12_greedy_119 rfl rfl (⟨rfl, fr, by omega, b4⟩)
    | succ g ih =>
      intro r As m v2 o4 o5 h1 it q2 n1 hr b1 b2 b3 b4 c4 c5 pq pe hp ov dq hi fr
      have hr2 : r < ρ 2 := by omega
      have gb := fun j => grT_b w r (by omega) j
      have hla : lAr ρ r < ρ 2 := by
        obtain ⟨a, q1, q2, -⟩ := lAt_rk (w := 1) (r := r) (ρ := ρ) hr2 (by omega)
        have : lAr ρ r = a := by unfold lAr; rw [q1]; rfl
        omega
      have wl := w.l hla
      have hx : ((srM ρ 60).map fun i => Value.ref (G i))[r]? = some (.ref (G (lAr ρ r))) := by rw [List.getElem?_map, srM_at (by omega) lb hr2]; rfl
      have gn := f2 _ _ (hG _ hla)
      -- the first oven
      obtain ⟨a, As, rfl⟩ : ∃ a A', As = a :: A' := by
        cases As with
        | nil =>
          have := pe.length_eq
          rw [oMp_len] at this
          simp at this
          omega
        | cons a A' => exact ⟨a, A', rfl⟩
      have al : As.length + 1 = ρ 5 := by
        have := pe.length_eq
        rw [oMp_len] at this
        exact this
      have mem : ∀ z ∈ a :: As, ∃ i, i < ρ 5 ∧ z = n + 3 + i := fun z hz => oMp_mem (pe.mem_iff.mp hz)
      obtain ⟨i0, hi0, ea⟩ := mem a List.mem_cons_self
      have ef : i0 = frO (grT ρ r) (ρ 5 - 1) := by
        refine frO_one (by omega) (by omega) fun j hj => ?_
        have hj2 : n + 3 + j ∈ a :: As := pe.mem_iff.mpr (List.mem_map.mpr ⟨j, List.mem_range.mpr (by omega), rfl⟩)
        have : wtO (n + 3) (grT ρ r) a ≤ wtO (n + 3) (grT ρ r) (n + 3 + j) := by
          rcases List.mem_cons.mp hj2 with z | z
          · rw [z]; exact Nat.le_refl _
          · exact hp _ z
        rw [ea, wtO_at, wtO_at] at this
        exact this
      have eg : grT ρ (r + 1) = fup (grT ρ r) i0 (grT ρ r i0 + ρ (33 + 3 * lAr ρ r)) := by rw [ef]; rfl
      subst ea
      have nd := pe.nodup_iff.mpr oMp_nd
      have na := (List.nodup_cons.mp nd).1
      have oA := ov.at (As := (n + 3 + i0) :: As) (by omega) (fun j => by have := gb j; omega) mem
      have hi5 : (g_up h1 it (g_ob 40 [.int (nI (r + 1)), .int (nI (((srM ρ 60).map fun i => Value.ref (G i)).length - (r + 1))), .int (nI r), .ref q2])) (G (lAr ρ r)) = some (lf ρ (lAr ρ r)) := by rw [g_un (by omega), fr _ gn]; exact hG _ hla
      have pq1 := pq.of (h' := g_up h1 it (g_ob 40 [.int (nI (r + 1)), .int (nI (((srM ρ 60).map fun i => Value.ref (G i)).length - (r + 1))), .int (nI r), .ref q2])) (g_un (by omega)) (g_un (by omega)) (g_un (by omega))
      have ov1 : ovS (n + 3) (ρ 5) (grT ρ r) (g_up h1 it (g_ob 40 [.int (nI (r + 1)), .int (nI (((srM ρ 60).map fun i => Value.ref (G i)).length - (r + 1))), .int (nI r), .ref q2])) := fun i hi => by rw [g_un (by omega)]; exact ov i hi
      have oA1 := ov1.at (As := (n + 3 + i0) :: As) (by omega) (fun j => by have := gb j; omega) mem
      have lT3 := lg3_b gb
      have e5 : max (lg3 (grT ρ r)) (grT ρ r i0 + ρ (33 + 3 * lAr ρ r)) = lg3 (grT ρ (r + 1)) := by rw [eg, lg3_up (by omega) (by omega)]
      have gi := gb i0
      refine r_aload3 dX12_greedy_54 ?_
      refine r_callF (M' := mJ44_hasNext) _ dX12_greedy_55 q1355 q1357 q1356 rfl q1370 q1372 q1373 q1371 q1369 rfl (lw_all_tbl q1374) q187 (by exact (⟨by decide, by decide, by decide +kernel⟩ : g_pl ⟨"java/util/Iterator", "hasNext", "()Z"⟩ 0)) gc_J44 hi ((k_J44_hasNext (by rw [List.length_map]; omega) hi)) (by omega) (Nat.le_of_ble_eq_true rfl) (by omega) (by omega) rfl (Nat.le_of_ble_eq_true rfl) rfl (kI fun r55 h55 n55 e55 => ?_) kN
      obtain ⟨q9, q8, q7⟩ := e55; have q9 := q9.symm; have q8 := q8.symm; have q7 := q7.symm; subst q9; subst q8; subst q7
      refine r_if_eqB (tgt := 118) dX12_greedy_60 (by decide) (fun c60 => absurd c60 (by rw [List.length_map]; omega)) (fun c60 => ?_)
      refine r_aload3 dX12_greedy_63 ?_
      refine r_callF (M' := mJ44_next) _ dX12_greedy_64 q1397 q1399 q1398 rfl q1489 q1491 q1492 q1490 q1369 rfl (lw_all_tbl q1493) q187 (by exact (⟨by decide, by decide, by decide +kernel⟩ : g_pl ⟨"java/util/Iterator", "next", "()Ljava/lang/Object;"⟩ 0)) gc_J44 hi ((k_J44_next (by omega) dq (by omega) (by omega) hx (by rw [List.length_map]; omega) hi)) (by omega) (Nat.le_of_ble_eq_true rfl) (by omega) (by omega) rfl (Nat.le_of_ble_eq_true rfl) rfl (kA fun r64 h64 n64 t64 e64 => ?_) kN
      obtain ⟨q9, q8, q7⟩ := e64; have q9 := q9.symm; have q8 := q8.symm; have q7 := q7.symm; subst q9; subst q8; subst q7
      refine r_checkcast dX12_greedy_69 gc_X8 q812 (Or.inl rfl) hi5 ?_
      refine r_astore4 dX12_greedy_72 ?_
      refine r_aload1 dX12_greedy_74 ?_
      refine r_callV (M' := mJ43_poll) _ dX12_greedy_75 q1611 q1612 q1613 rfl (lw_all_tbl q1614) q184 (by exact pl_J43_poll) gc_J43 pq1.1 ((k_poll f1 pq1 (by omega) oA1)) (by omega) (Nat.le_of_ble_eq_true rfl) (by omega) (by omega) rfl (Nat.le_of_ble_eq_true rfl) rfl (kA fun r75 h75 n75 t75 e75 => ?_) kN
      obtain ⟨rfl, pq2, y1, rfl⟩ := e75
      have ov2 : ovS (n + 3) (ρ 5) (grT ρ r) h75 := fun i hi => by rw [y1 _ (by omega) (by omega)]; exact ov1 i hi
      have pm := pqPoll_perm (wt := wtO (n + 3) (grT ρ r)) (a := n + 3 + i0) (As := As) (by omega)
      have ph := pqPoll_hp (wt := wtO (n + 3) (grT ρ r)) (a := n + 3 + i0) (As := As) (by omega)
      refine r_checkcast dX12_greedy_78 gc_X14 q885 (Or.inl rfl) (ov2 i0 hi0) ?_
      refine r_astore5 dX12_greedy_81 ?_
      refine r_aload5 dX12_greedy_83 ?_
      refine r_dup dX12_greedy_85 ?_
      refine f_X12_95_X14 dX12_greedy_86 (ov2 i0 hi0) ?_
      refine r_aload4 dX12_greedy_89 ?_
      refine f_X12_31_X8 dX12_greedy_91 ((y1 _ (by omega) (by omega)).trans hi5) ?_
      refine r_iadd dX12_greedy_94 (nI_add _ _) ?_
      refine p_X12_95_X14 dX12_greedy_95 (by omega) (ov2 i0 hi0) ?_
      refine r_iload2 dX12_greedy_98 ?_
      refine r_aload5 dX12_greedy_99 ?_
      refine f_X12_95_X14 dX12_greedy_101 g_us ?_
      refine r_callS (M' := mJ16_max) _ dX12_greedy_104 q817 q576 rfl (lw_all_tbl q577) q148 (by exact pl_J16_max)  ((k_max (by omega) (by omega))) (by omega) (Nat.le_of_ble_eq_true rfl) (by omega) (by omega) rfl (Nat.le_of_ble_eq_true rfl) rfl (kI fun r104 h104 n104 e104 => ?_) kN
      obtain ⟨q9, q8, q7⟩ := e104; have q9 := q9.symm; have q8 := q8.symm; have q7 := q7.symm; subst q9; subst q8; subst q7
      rw [e5]
      refine r_istore2 dX12_greedy_107 ?_
      refine r_aload1 dX12_greedy_108 ?_
      refine r_aload5 dX12_greedy_109 ?_
      have ov3 : ovS (n + 3) (ρ 5) (grT ρ (r + 1)) (g_up h75 (n + 3 + i0) (g_ob 12 [.int (nI i0), .int (nI (grT ρ r i0 + ρ (33 + 3 * lAr ρ r)))])) := fun i hi => by
        rw [eg]
        by_cases z : i = i0
        · rw [z, g_us, fup_s]
        · rw [g_un (by omega), fup_n z]; exact ov2 i hi
      have wc : ∀ z ∈ As, wtO (n + 3) (grT ρ (r + 1)) z = wtO (n + 3) (grT ρ r) z := fun z hz => by
        obtain ⟨i, hi, rfl⟩ := mem z (List.mem_cons_of_mem _ hz)
        rw [wtO_at, wtO_at, eg, fup_n (fun e => na (by rw [← e]; exact hz))]
      have gb1 := fun j => grT_b w (r + 1) (by omega) j
      have oB := ov3.at (As := pqPoll (wtO (n + 3) (grT ρ r)) ((n + 3 + i0) :: As)) (by omega) (fun j => by have := gb1 j; omega) (fun z hz => mem z (List.mem_cons_of_mem _ (pm.mem_iff.mp hz)))
      have oC := ov3.at (As := [n + 3 + i0]) (by omega) (fun j => by have := gb1 j; omega) (fun z hz => mem z (by simp at hz; rw [hz]; exact List.mem_cons_self)) (n + 3 + i0) (by simp)
      have pq3 := pq2.of (h' := g_up h75 (n + 3 + i0) (g_ob 12 [.int (nI i0), .int (nI (grT ρ r i0 + ρ (33 + 3 * lAr ρ r)))])) (g_un (by omega)) (g_un (by omega)) (g_un (by omega))
      refine r_callV (M' := mJ43_add) _ dX12_greedy_111 q900 q901 q902 rfl (lw_all_tbl q903) q184 (by exact pl_J43_add) gc_J43 pq3.1 ((k_pqAdd f1 pq3 (by rw [pm.length_eq]; omega) oC oB (by omega))) (by omega) (Nat.le_of_ble_eq_true rfl) (by omega) (by omega) rfl (Nat.le_of_ble_eq_true rfl) rfl (kI fun r111 h111 n111 e111 => ?_) kN
      obtain ⟨rfl, pq4, y2, rfl⟩ := e111
      refine r_pop dX12_greedy_114 ?_
      refine r_goto (tgt := 54) dX12_greedy_115 (by decide) ?_
      refine ih (r + 1) _ _ (.int (nI r)) _ _ _ it q2 _ (by omega) b1 b2 b3 b4 g_c1r g_c1r pq4 (pqAdd_perm.trans ((List.Perm.cons _ pm).trans pe)) (pqAdd_hp (hpL_congr (fun z hz => wc z (pm.mem_iff.mp hz)) ph)) (fun i hi => by rw [y2 _ (by omega) (by omega)]; exact ov3 i hi) (dq.of ?_ ?_) ?_ (fun q hq => ?_)
      · rw [y2 _ (by omega) (by omega), g_un (by omega), y1 _ (by omega) (by omega), g_un (by omega)]
      · rw [y2 _ (by omega) (by omega), g_un (by omega), y1 _ (by omega) (by omega), g_un (by omega)]
      · rw [y2 _ (by omega) (by omega), g_un (by omega), y1 _ (by omega) (by omega), g_us]
      · rw [y2 _ (by omega) (by omega), g_un (by omega), y1 _ (by omega) (by omega), g_un (by omega)]
        exact fr q hq
  have fill : ∀ (g i : Nat) (As : List Nat) (m : Int32) (h1 : g_P), i + g = ρ 5 → pqT K n (n + 2) (n + 1) m As h1 → As.Perm (oMp (n + 3) i) → hpL (wtO (n + 3) (fun _ => 0)) As → ovS (n + 3) i (fun _ => 0) h1 → (∀ q : Nat, q < n → h1 q = h q) → g_G K mX12_greedy 7 (g + 63) (2 * g + 264) (gI fun r h' n' => r = nI (grO ρ) ∧ (∀ q : Nat, q < n → h' q = h q) ∧ n ≤ n' ∧ n' ≤ n + 69) gN 17 [some (.ref s), some (.ref n), some (.int (nI i)), none, none, none] [] h1 (n + 3 + i) := by
    intro g
    induction g with
    | zero =>
      intro i As m h1 hi pq pe hp ov fr
      have : i = ρ 5 := by omega
      subst this
      have ho1 := (fr s sn).trans ho
      have lT1 := lT.of (h' := h1) (fr _ lln) (fr _ eln)
      refine r_iload2 dX12_greedy_17 ?_
      refine r_aload0 dX12_greedy_18 ?_
      refine f_X12_15_X12 dX12_greedy_19 ho1 ?_
      refine r_icmp_geN (tgt := 44) dX12_greedy_22 (by decide) (by omega) (by omega) (fun c22 => ?_) (fun c22 => absurd c22 (by omega))
      refine r_iconst (v := nI 0) dX12_greedy_44 (by decide) ?_
      refine r_istore2 dX12_greedy_45 ?_
      refine r_aload0 dX12_greedy_46 ?_
      refine r_callV (M' := mX12_longestFirst) _ dX12_greedy_47 q1218 q1220 qs9 rfl (lw_all_tbl q1221) q182 (by exact pl_X12_longestFirst) gc_X12 ho1 ((k_longestFirst lT1 (fun j hj => (fr _ (f2 _ _ (hG j hj))).trans (hG j hj)) w ho1)) (by omega) (Nat.le_of_ble_eq_true rfl) (by omega) (by omega) rfl (Nat.le_of_ble_eq_true rfl) rfl (kA fun r47 h47 n47 t47 e47 => ?_) kN
      obtain ⟨rfl, dq, y1, rfl⟩ := e47
      refine r_callV (M' := mJ32_iterator) _ dX12_greedy_50 q1581 q1582 q1583 rfl (lw_all_tbl q1584) q166 (by exact pl_J32_iterator) gc_J32 dq.1 ((k_J32_iterator dq)) (by omega) (Nat.le_of_ble_eq_true rfl) (by omega) (by omega) rfl (Nat.le_of_ble_eq_true rfl) rfl (kA fun r50 h50 n50 t50 e50 => ?_) kN
      obtain ⟨q9, q8, q7⟩ := e50; have q9 := q9.symm; have q8 := q8.symm; have q7 := q7.symm; subst q9; subst q8; subst q7
      refine r_astore3 dX12_greedy_53 ?_
      refine g_bud (bc' := 0) (bs' := 0) (by omega) (by omega) (Nat.le_refl _) (bake (ρ 2) 0 As m _ none none _ (n + 3 + ρ 5 + 62) (n + 3 + ρ 5) _ (by omega) (by omega) (by omega) (by omega) (by omega) g_c1n g_c1n (pq.of ?_ ?_ ?_) pe hp (fun i hi => ?_) (dq.of (g_un (by omega)) (g_un (by omega))) (by rw [g_us, Nat.sub_zero]) (fun q hq => ?_))
      · rw [g_un (by omega), y1 _ (by omega)]
      · rw [g_un (by omega), y1 _ (by omega)]
      · rw [g_un (by omega), y1 _ (by omega)]
      · rw [g_un (by omega), y1 _ (by omega)]; exact ov i hi
      · rw [g_un (by omega), y1 _ (by omega)]; exact fr q hq
    | succ g ih =>
      intro i As m h1 hi pq pe hp ov fr
      have ho1 := (fr s sn).trans ho
      have al : As.length = i := by rw [pe.length_eq, oMp_len]
      have mem : ∀ z ∈ As, ∃ j, j < i ∧ z = n + 3 + j := fun z hz => oMp_mem (pe.mem_iff.mp hz)
      have pq1 := pq.of (h' := g_up h1 (n + 3 + i) (g_ob 12 [.int (nI i), .int (nI 0)])) (g_un (by omega)) (g_un (by omega)) (g_un (by omega))
      have ov1 : ovS (n + 3) (i + 1) (fun _ => 0) (g_up h1 (n + 3 + i) (g_ob 12 [.int (nI i), .int (nI 0)])) := fun j hj => by
        by_cases z : j = i
        · rw [z, g_us]
        · rw [g_un (by omega)]; exact ov j (by omega)
      have oA := ov1.at (As := As) (by omega) (fun _ => Nat.zero_le _) (fun z hz => by obtain ⟨j, hj, e⟩ := mem z hz; exact ⟨j, by omega, e⟩)
      have oX := ov1.at (As := [n + 3 + i]) (by omega) (fun _ => Nat.zero_le _) (fun z hz => ⟨i, by omega, by simpa using hz⟩) (n + 3 + i) (by simp)
      refine r_iload2 dX12_greedy_17 ?_
      refine r_aload0 dX12_greedy_18 ?_
      refine f_X12_15_X12 dX12_greedy_19 ho1 ?_
      refine r_icmp_geN (tgt := 44) dX12_greedy_22 (by decide) (by omega) (by omega) (fun c22 => absurd c22 (by omega)) (fun c22 => ?_)
      refine r_aload1 dX12_greedy_25 ?_
      refine n_X12_63 dX12_greedy_26 (by omega) (by omega) ?_
      refine r_dup dX12_greedy_29 ?_
      refine r_iload2 dX12_greedy_30 ?_
      refine r_callI (M' := mX14_init) _ dX12_greedy_31 q887 q888 rfl rfl rfl (lw_all_tbl q889) q186 (by exact pl_X14_init)  ((k_X14_init (by omega) g_us)) (by omega) (Nat.le_of_ble_eq_true rfl) (by omega) (by omega) rfl (Nat.le_of_ble_eq_true rfl) rfl (kV fun h31 n31 e31 => ?_) kN
      obtain ⟨q8, q7⟩ := e31; have q8 := q8.symm; have q7 := q7.symm; subst q8; subst q7
      rw [g_up_up]
      refine r_callV (M' := mJ43_add) _ dX12_greedy_34 q900 q901 q902 rfl (lw_all_tbl q903) q184 (by exact pl_J43_add) gc_J43 pq1.1 ((k_pqAdd f1 pq1 (by omega) oX oA (by omega))) (by omega) (Nat.le_of_ble_eq_true rfl) (by omega) (by omega) rfl (Nat.le_of_ble_eq_true rfl) rfl (kI fun r34 h34 n34 e34 => ?_) kN
      obtain ⟨rfl, pq2, y1, rfl⟩ := e34
      refine r_pop dX12_greedy_37 ?_
      refine r_iinc2 dX12_greedy_38 (ii1 _) ?_
      refine r_goto (tgt := 17) dX12_greedy_41 (by decide) ?_
      refine g_bud (bc' := g + 63) (bs' := 2 * g + 264) (by omega) (by omega) (Nat.le_refl _) (ih (i + 1) _ _ _ (by omega) pq2 (pqAdd_perm.trans (by rw [oMp_s]; exact (List.Perm.cons _ pe).trans (List.perm_append_singleton _ _).symm)) (pqAdd_hp hp) (fun j hj => by rw [y1 _ (by omega) (by omega)]; exact ov1 j hj) (fun q hq => by rw [y1 q (by omega) (by omega), g_un (by omega)]; exact fr q hq))
  refine g_Met.of (M := mX12_greedy) (L := [some (.ref s), none, none, none, none, none]) (by decide +kernel) (Nat.le_of_ble_eq_true rfl) rfl ?_
  refine n_X12_55 dX12_greedy_0 (by omega) (by omega) ?_
  refine r_dup dX12_greedy_3 ?_
  refine n_X12_57 dX12_greedy_4 (by omega) (by omega) ?_
  refine r_dup dX12_greedy_7 ?_
  refine r_callIN (M' := mX13_init) _ dX12_greedy_8 q844 q845 rfl rfl rfl (lw_all_tbl q846) q185 (by exact pl_X13_init)  (k_X13_init) (by omega) (Nat.le_of_ble_eq_true rfl) (by omega) (by omega) rfl (Nat.le_of_ble_eq_true rfl) rfl (kV fun h8 n8 e8 => ?_) kN
  obtain ⟨q8, q7⟩ := e8; have q8 := q8.symm; have q7 := q7.symm; subst q8; subst q7
  refine r_callI (M' := mJ43_init) _ dX12_greedy_11 q849 q850 rfl rfl rfl (lw_all_tbl q851) q184 (by exact pl_J43_init)  ((k_J43_init (q := n) (c := n + 1) f1 g_us (by omega) (by rw [g_un (by omega)]; exact g_us))) (by omega) (Nat.le_of_ble_eq_true rfl) (by omega) (by omega) rfl (Nat.le_of_ble_eq_true rfl) rfl (kV fun h11 n11 e11 => ?_) kN
  obtain ⟨pq, z2, rfl⟩ := e11
  refine r_astore1 dX12_greedy_14 ?_
  refine r_iconst (v := nI 0) dX12_greedy_15 (by decide) ?_
  refine r_istore2 dX12_greedy_16 ?_
  refine g_bud (bc' := ρ 5 + 63) (bs' := 2 * ρ 5 + 264) (by omega) (by omega) (Nat.le_refl _) (fill (ρ 5) 0 [] _ _ (by omega) pq (List.Perm.refl _) trivial (fun j hj => absurd hj (by omega)) (fun q hq => by rw [z2 q (by omega) (by omega), g_un (by omega), g_un (by omega)]))
end
