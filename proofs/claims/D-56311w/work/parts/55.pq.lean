/-! PriorityQueue of at most three ovens, by ByTime -/
set_option maxRecDepth 100000
/-- an oven at a: its index, its time; its number -/
def ovT (h : g_P) (wt : Nat → Nat) (a : Nat) : Prop := ∃ i b : Nat, i < 4 ∧ b < 500000000 ∧ h a = some (g_ob 12 [.int (nI i), .int (nI b)]) ∧ wt a = 4 * b + i
theorem cmpS_le {r : Int32} {a b : Nat} (h : cmpS r a b) : (a < b ∧ r = -1) ∨ (a = b ∧ r = nI 0) ∨ (b < a ∧ r = nI 1) := by
  rcases h with ⟨e, q⟩ | ⟨e, q⟩ | ⟨e, q⟩
  · exact Or.inl ⟨by omega, e⟩
  · exact Or.inr (Or.inl ⟨by omega, e⟩)
  · exact Or.inr (Or.inr ⟨by omega, e⟩)
/-- the queue at q: the ovens As, in an array of eleven places at e -/
def pqT (K : g_K) (q e c : Nat) (m : Int32) (As : List Nat) (h : g_P) : Prop :=
  h q = some (g_ob 39 [.ref e, .int (nI As.length), .ref c, .int m]) ∧ (∃ r : Nat, h e = some (g_ar 5 (As.map Value.ref ++ List.replicate r .null)) ∧ As.length + r = 11) ∧ k_b K ≤ e ∧ e ≠ q ∧ h c = some (g_ob 11 [])
/-- the first is the least -/
def hpL (wt : Nat → Nat) (As : List Nat) : Prop := match As with
  | [] => True
  | a :: As => ∀ x ∈ As, wt a ≤ wt x
section
variable {K : g_K} {q e c n : Nat} {m : Int32} {h : g_P} {wt : Nat → Nat}
theorem k_X13_compare_2 {a b : Nat} (oa : ovT h wt a) (ob : ovT h wt b) : g_Met K mX13_compare_2 1 0 0 [.ref c, .ref a, .ref b] h n (gI fun r h' n' => cmpS r (wt a) (wt b) ∧ h' = h ∧ n' = n) gN := by
  obtain ⟨i, t, h1, h2, ea, wa⟩ := oa
  obtain ⟨i2, t2, h3, h4, eb, wb⟩ := ob
  refine g_Met.of (M := mX13_compare_2) (L := [some (.ref c), some (.ref a), some (.ref b)]) (by decide +kernel) (Nat.le_of_ble_eq_true rfl) rfl ?_
  refine r_aload1 dX13_compare_2_0 ?_
  refine f_X13_7_X14 dX13_compare_2_1 (by first | assumption | exact g_us | (rw [g_un (by omega)]; assumption) | (rw [g_un (by omega)]; exact g_us) | (rw [g_un (by omega), g_un (by omega)]; assumption) | (rw [g_un (by omega), g_un (by omega)]; exact g_us) | (rw [g_un (by omega), g_un (by omega), g_un (by omega)]; assumption) | ((repeat (rw [g_un (by omega)])); first | exact g_us | assumption)) ?_
  refine r_aload2 dX13_compare_2_4 ?_
  refine f_X13_7_X14 dX13_compare_2_5 (by first | assumption | exact g_us | (rw [g_un (by omega)]; assumption) | (rw [g_un (by omega)]; exact g_us) | (rw [g_un (by omega), g_un (by omega)]; assumption) | (rw [g_un (by omega), g_un (by omega)]; exact g_us) | (rw [g_un (by omega), g_un (by omega), g_un (by omega)]; assumption) | ((repeat (rw [g_un (by omega)])); first | exact g_us | assumption)) ?_
  refine r_icmp_neN (tgt := 25) dX13_compare_2_8 (by decide) (by omega) (by omega) (fun c8 => ?_) (fun c8 => ?_)
  · refine r_aload1 dX13_compare_2_25 ?_
    refine f_X13_7_X14 dX13_compare_2_26 (by first | assumption | exact g_us | (rw [g_un (by omega)]; assumption) | (rw [g_un (by omega)]; exact g_us) | (rw [g_un (by omega), g_un (by omega)]; assumption) | (rw [g_un (by omega), g_un (by omega)]; exact g_us) | (rw [g_un (by omega), g_un (by omega), g_un (by omega)]; assumption) | ((repeat (rw [g_un (by omega)])); first | exact g_us | assumption)) ?_
    refine r_aload2 dX13_compare_2_29 ?_
    refine f_X13_7_X14 dX13_compare_2_30 (by first | assumption | exact g_us | (rw [g_un (by omega)]; assumption) | (rw [g_un (by omega)]; exact g_us) | (rw [g_un (by omega), g_un (by omega)]; assumption) | (rw [g_un (by omega), g_un (by omega)]; exact g_us) | (rw [g_un (by omega), g_un (by omega), g_un (by omega)]; assumption) | ((repeat (rw [g_un (by omega)])); first | exact g_us | assumption)) ?_
    refine r_callS (M' := mJ14_compare) _ dX13_compare_2_33 q992 q993 rfl (lw_all_tbl q994) q144 (by exact pl_J14_compare)  (k_compare) (by omega) (Nat.le_of_ble_eq_true rfl) (by omega) (by omega) rfl (Nat.le_of_ble_eq_true rfl) rfl (kI fun r33 h33 n33 e33 => ?_) kN
    obtain ⟨q9, q8, q7⟩ := e33; have q9 := q9.symm; have q8 := q8.symm; have q7 := q7.symm; subst q9; subst q8; subst q7
    exact r_ireturn dX13_compare_2_36 rfl rfl (⟨(by rcases cmpS_le (cmI_S (i := t) (j := t2) (by omega) (by omega)) with ⟨e, q⟩ | ⟨e, q⟩ | ⟨e, q⟩ <;> rw [q, wa, wb] <;> first | exact Or.inl ⟨rfl, by omega⟩ | exact Or.inr (Or.inl ⟨rfl, by omega⟩) | exact Or.inr (Or.inr ⟨rfl, by omega⟩)), rfl, rfl⟩)
  · refine r_aload1 dX13_compare_2_11 ?_
    refine f_X13_13_X14 dX13_compare_2_12 (by first | assumption | exact g_us | (rw [g_un (by omega)]; assumption) | (rw [g_un (by omega)]; exact g_us) | (rw [g_un (by omega), g_un (by omega)]; assumption) | (rw [g_un (by omega), g_un (by omega)]; exact g_us) | (rw [g_un (by omega), g_un (by omega), g_un (by omega)]; assumption) | ((repeat (rw [g_un (by omega)])); first | exact g_us | assumption)) ?_
    refine r_aload2 dX13_compare_2_15 ?_
    refine f_X13_13_X14 dX13_compare_2_16 (by first | assumption | exact g_us | (rw [g_un (by omega)]; assumption) | (rw [g_un (by omega)]; exact g_us) | (rw [g_un (by omega), g_un (by omega)]; assumption) | (rw [g_un (by omega), g_un (by omega)]; exact g_us) | (rw [g_un (by omega), g_un (by omega), g_un (by omega)]; assumption) | ((repeat (rw [g_un (by omega)])); first | exact g_us | assumption)) ?_
    refine r_callS (M' := mJ14_compare) _ dX13_compare_2_19 q992 q993 rfl (lw_all_tbl q994) q144 (by exact pl_J14_compare)  (k_compare) (by omega) (Nat.le_of_ble_eq_true rfl) (by omega) (by omega) rfl (Nat.le_of_ble_eq_true rfl) rfl (kI fun r19 h19 n19 e19 => ?_) kN
    obtain ⟨q9, q8, q7⟩ := e19; have q9 := q9.symm; have q8 := q8.symm; have q7 := q7.symm; subst q9; subst q8; subst q7
    refine r_goto (tgt := 36) dX13_compare_2_22 (by decide) ?_
    exact r_ireturn dX13_compare_2_36 rfl rfl (⟨(by rcases cmpS_le (cmI_S (i := i) (j := i2) (by omega) (by omega)) with ⟨e, q⟩ | ⟨e, q⟩ | ⟨e, q⟩ <;> rw [q, wa, wb] <;> first | exact Or.inl ⟨rfl, by omega⟩ | exact Or.inr (Or.inl ⟨rfl, by omega⟩) | exact Or.inr (Or.inr ⟨rfl, by omega⟩)), rfl, rfl⟩)
theorem k_X13_compare {a b : Nat} (hc : h c = some (g_ob 11 [])) (oa : ovT h wt a) (ob : ovT h wt b) : g_Met K mX13_compare 2 0 0 [.ref c, .ref a, .ref b] h n (gI fun r h' n' => ((wt a < wt b ∧ r = -1) ∨ (wt a = wt b ∧ r = nI 0) ∨ (wt b < wt a ∧ r = nI 1)) ∧ h' = h ∧ n' = n) gN := by
  have oa0 := oa
  have ob0 := ob
  obtain ⟨i, t, h1, h2, ea, wa⟩ := oa
  obtain ⟨i2, t2, h3, h4, eb, wb⟩ := ob
  refine g_Met.of (M := mX13_compare) (L := [some (.ref c), some (.ref a), some (.ref b)]) (by decide +kernel) (Nat.le_of_ble_eq_true rfl) rfl ?_
  refine r_aload0 dX13_compare_0 ?_
  refine r_aload1 dX13_compare_1 ?_
  refine r_checkcast dX13_compare_2 gc_X14 q987 (Or.inl rfl) ea ?_
  refine r_aload2 dX13_compare_5 ?_
  refine r_checkcast dX13_compare_6 gc_X14 q987 (Or.inl rfl) eb ?_
  refine r_callV (M' := mX13_compare_2) _ dX13_compare_9 q988 q989 q990 rfl (lw_all_tbl q991) q185 (by exact pl_X13_compare_2) gc_X13 (by first | assumption | exact g_us | (rw [g_un (by omega)]; assumption) | (rw [g_un (by omega)]; exact g_us) | (rw [g_un (by omega), g_un (by omega)]; assumption) | (rw [g_un (by omega), g_un (by omega)]; exact g_us) | (rw [g_un (by omega), g_un (by omega), g_un (by omega)]; assumption) | ((repeat (rw [g_un (by omega)])); first | exact g_us | assumption)) ((k_X13_compare_2 oa0 ob0)) (by omega) (Nat.le_of_ble_eq_true rfl) (by omega) (by omega) rfl (Nat.le_of_ble_eq_true rfl) rfl (kI fun r9 h9 n9 e9 => ?_) kN
  obtain ⟨e9, q8, q7⟩ := e9; have q8 := q8.symm; have q7 := q7.symm; subst q8; subst q7
  exact r_ireturn dX13_compare_12 rfl rfl (⟨cmpS_le e9, rfl, rfl⟩)
theorem k_X13_init : g_Met K mX13_init 1 0 0 [.ref c] h n (gV fun h' n' => h' = h ∧ n' = n) gN := by
  refine g_Met.of (M := mX13_init) (L := [some (.ref c)]) (by decide +kernel) (Nat.le_of_ble_eq_true rfl) rfl ?_
  refine r_aload0 dX13_init_0 ?_
  refine r_objInit dX13_init_1 q847 q200 q201 rfl (by omega) (Nat.le_of_ble_eq_true rfl) ?_
  exact r_return dX13_init_4 rfl (⟨rfl, rfl⟩)
theorem k_X14_init {a i : Nat} {v : Value} (hb : k_b K ≤ a) (ho : h a = some (g_ob 12 [v, .int (nI 0)])) : g_Met K mX14_init 1 0 0 [.ref a, .int (nI i)] h n (gV fun h' n' => h' = g_up h a (g_ob 12 [.int (nI i), .int (nI 0)]) ∧ n' = n) gN := by
  refine g_Met.of (M := mX14_init) (L := [some (.ref a), some (.int (nI i))]) (by decide +kernel) (Nat.le_of_ble_eq_true rfl) rfl ?_
  refine r_aload0 dX14_init_0 ?_
  refine r_objInit dX14_init_1 q890 q200 q201 rfl (by omega) (Nat.le_of_ble_eq_true rfl) ?_
  refine r_aload0 dX14_init_4 ?_
  refine r_iload1 dX14_init_5 ?_
  refine p_X14_7_X14 dX14_init_6 (by omega) (by first | assumption | exact g_us | (rw [g_un (by omega)]; assumption) | (rw [g_un (by omega)]; exact g_us) | (rw [g_un (by omega), g_un (by omega)]; assumption) | (rw [g_un (by omega), g_un (by omega)]; exact g_us) | (rw [g_un (by omega), g_un (by omega), g_un (by omega)]; assumption) | ((repeat (rw [g_un (by omega)])); first | exact g_us | assumption)) ?_
  exact r_return dX14_init_9 rfl (⟨rfl, rfl⟩)
theorem k_J43_init_2 {v0 v2 : Value} (hb : k_b K ≤ q) (hc : h c = some (g_ob 11 [])) (cq : c ≠ q) (ho : h q = some (g_ob 39 [v0, .int (nI 0), v2, .int (nI 0)])) : g_Met K mJ43_init_2 3 1 11 [.ref q, .int (nI 11), .ref c] h n (gV fun h' n' => pqT K q n c (nI 0) [] h' ∧ (∀ z : Nat, z ≠ q → z ≠ n → h' z = h z) ∧ n' = n + 1) gN := by
  refine g_Met.facts fun f1 f2 f3 => ?_
  have hq := f2 _ _ ho
  have hcn := f2 _ _ hc
  refine g_Met.of (M := mJ43_init_2) (L := [some (.ref q), some (.int (nI 11)), some (.ref c)]) (by decide +kernel) (Nat.le_of_ble_eq_true rfl) rfl ?_
  refine r_aload0 dJ43_init_2_0 ?_
  refine r_callI (M' := mJ42_init) _ dJ43_init_2_1 q855 q856 rfl rfl rfl (lw_all_tbl q857) q183 (by exact pl_J42_init)  (k_J42_init) (by omega) (Nat.le_of_ble_eq_true rfl) (by omega) (by omega) rfl (Nat.le_of_ble_eq_true rfl) rfl (kV fun h1 n1 e1 => ?_) kN
  obtain ⟨q8, q7⟩ := e1; have q8 := q8.symm; have q7 := q7.symm; subst q8; subst q7
  refine r_iload1 dJ43_init_2_4 ?_
  refine r_iconst (v := nI 1) dJ43_init_2_5 (by decide) ?_
  refine r_icmp_geN (tgt := 17) dJ43_init_2_6 (by decide) (by omega) (by omega) (fun c6 => ?_) (fun c6 => absurd c6 (by omega))
  refine r_aload0 dJ43_init_2_17 ?_
  refine r_iload1 dJ43_init_2_18 ?_
  refine r_anewarray (11) dJ43_init_2_19 ga_O q870 q871 rfl (by omega) (by omega) (by omega) (by omega) ?_
  refine p_J43_17_J43 dJ43_init_2_22 (by omega) (by rw [g_un (by omega)]; exact ho) ?_
  refine r_aload0 dJ43_init_2_25 ?_
  refine r_aload2 dJ43_init_2_26 ?_
  refine p_J43_21_J43 dJ43_init_2_27 (by omega) g_us ?_
  exact r_return dJ43_init_2_30 rfl (⟨⟨g_us, ⟨11, by rw [g_un (by omega), g_un (by omega), g_us]; rfl, rfl⟩, f1, by omega, by rw [g_un cq, g_un cq, g_un (by omega)]; exact hc⟩, fun z z1 z2 => by rw [g_un z1, g_un z1, g_un z2], rfl⟩)
theorem k_J43_init {v0 v2 : Value} (hb : k_b K ≤ q) (hc : h c = some (g_ob 11 [])) (cq : c ≠ q) (ho : h q = some (g_ob 39 [v0, .int (nI 0), v2, .int (nI 0)])) : g_Met K mJ43_init 4 1 11 [.ref q, .ref c] h n (gV fun h' n' => pqT K q n c (nI 0) [] h' ∧ (∀ z : Nat, z ≠ q → z ≠ n → h' z = h z) ∧ n' = n + 1) gN := by
  refine g_Met.of (M := mJ43_init) (L := [some (.ref q), some (.ref c)]) (by decide +kernel) (Nat.le_of_ble_eq_true rfl) rfl ?_
  refine r_aload0 dJ43_init_0 ?_
  refine r_bipush (v := nI 11) dJ43_init_1 (by decide) ?_
  refine r_aload1 dJ43_init_3 ?_
  refine r_callI (M' := mJ43_init_2) _ dJ43_init_4 q852 q853 rfl rfl rfl (lw_all_tbl q854) q184 (by exact pl_J43_init_2)  ((k_J43_init_2 hb hc cq ho)) (by omega) (Nat.le_of_ble_eq_true rfl) (by omega) (by omega) rfl (Nat.le_of_ble_eq_true rfl) rfl (kV fun h4 n4 e4 => ?_) kN
  obtain ⟨e4, e4a, rfl⟩ := e4
  exact r_return dJ43_init_7 rfl (⟨e4, e4a, rfl⟩)
theorem k_siftUp0 {x : Nat} {ws : List Value} (be : k_b K ≤ e) (he : h e = some (g_ar 5 ws)) (hl : ws.length = 11) (ox : ovT h wt x) : g_Met K mJ43_siftUpUsingComparator 3 0 0 [.int (nI 0), .ref x, .ref e, .ref c] h n (gV fun h' n' => h' = g_up h e (g_ar 5 (ws.set 0 (.ref x))) ∧ n' = n) gN := by
  obtain ⟨i, t, h1, h2, ea, wa⟩ := ox
  refine g_Met.of (M := mJ43_siftUpUsingComparator) (L := [some (.int (nI 0)), some (.ref x), some (.ref e), some (.ref c), none, none]) (by decide +kernel) (Nat.le_of_ble_eq_true rfl) rfl ?_
  refine r_iload0 dJ43_siftUpUsingComparator_0 ?_
  refine r_if_leN (tgt := 43) dJ43_siftUpUsingComparator_1 (by decide) (by omega) (fun c1 => ?_) (fun c1 => absurd c1 (by omega))
  refine r_aload2 dJ43_siftUpUsingComparator_43 ?_
  refine r_iload0 dJ43_siftUpUsingComparator_44 ?_
  refine r_aload1 dJ43_siftUpUsingComparator_45 ?_
  refine r_aastore (0) dJ43_siftUpUsingComparator_46 ga_O gc_X14 q4063 (by omega) he ea rfl (by omega) (by first | omega | simp; omega) ?_
  exact r_return dJ43_siftUpUsingComparator_47 rfl (⟨rfl, rfl⟩)
theorem k_siftUpK {x a0 k : Nat} {ws : List Value} (hk : k = 1 ∨ k = 2) (be : k_b K ≤ e) (hc : h c = some (g_ob 11 [])) (he : h e = some (g_ar 5 ws)) (hl : ws.length = 11) (h0 : ws[0]? = some (.ref a0)) (ox : ovT h wt x) (oa : ovT h wt a0) (xe : x ≠ e) : g_Met K mJ43_siftUpUsingComparator 3 0 0 [.int (nI k), .ref x, .ref e, .ref c] h n (gV fun h' n' => h' = g_up h e (g_ar 5 (if wt x < wt a0 then (ws.set k (.ref a0)).set 0 (.ref x) else ws.set k (.ref x))) ∧ n' = n) gN := by
  have ox0 := ox
  have oa0 := oa
  obtain ⟨i, t, h1, h2, ea, wa⟩ := ox
  obtain ⟨i2, t2, h3, h4, eb, wb⟩ := oa
  have top : (∀ (o4 o5 : Option Value), wt x < wt a0 → g_G K mJ43_siftUpUsingComparator 3 0 0 (gV fun h' n' => h' = g_up h e (g_ar 5 (if wt x < wt a0 then (ws.set k (.ref a0)).set 0 (.ref x) else ws.set k (.ref x))) ∧ n' = n) gN 0 [some (.int (nI 0)), some (.ref x), some (.ref e), some (.ref c), o4, o5] [] (g_up h e (g_ar 5 (ws.set k (.ref a0)))) n) := by
    intro o4 o5 hlt
    refine r_iload0 dJ43_siftUpUsingComparator_0 ?_
    refine r_if_leN (tgt := 43) dJ43_siftUpUsingComparator_1 (by decide) (by omega) (fun c1 => ?_) (fun c1 => absurd c1 (by omega))
    refine r_aload2 dJ43_siftUpUsingComparator_43 ?_
    refine r_iload0 dJ43_siftUpUsingComparator_44 ?_
    refine r_aload1 dJ43_siftUpUsingComparator_45 ?_
    refine r_aastore (0) dJ43_siftUpUsingComparator_46 ga_O gc_X14 q4063 (by omega) g_us (by rw [g_un xe]; exact ea) rfl (by omega) (by first | omega | simp; omega) ?_
    exact r_return dJ43_siftUpUsingComparator_47 rfl (⟨by rw [g_up_up, if_pos hlt], rfl⟩)
  have k26 : ∀ r : Int32, ((wt x < wt a0 ∧ r = -1) ∨ (wt x = wt a0 ∧ r = nI 0) ∨ (wt a0 < wt x ∧ r = nI 1)) → g_G K mJ43_siftUpUsingComparator 3 0 0 (gV fun h' n' => h' = g_up h e (g_ar 5 (if wt x < wt a0 then (ws.set k (.ref a0)).set 0 (.ref x) else ws.set k (.ref x))) ∧ n' = n) gN 26 [some (.int (nI k)), some (.ref x), some (.ref e), some (.ref c), some (.int (nI 0)), some (.ref a0)] [.int r] h n := by
    rintro r (⟨e1, rfl⟩ | ⟨e1, rfl⟩ | ⟨e1, rfl⟩)
    · skip
      refine r_if_lt (tgt := 32) dJ43_siftUpUsingComparator_26 (by decide) (fun c26 => ?_) (fun c26 => absurd ((by decide)) c26)
      refine r_aload2 dJ43_siftUpUsingComparator_32 ?_
      refine r_iload0 dJ43_siftUpUsingComparator_33 ?_
      refine r_aload5 dJ43_siftUpUsingComparator_34 ?_
      refine r_aastore (k) dJ43_siftUpUsingComparator_36 ga_O gc_X14 q4063 (by omega) he eb rfl (by omega) (by first | omega | simp; omega) ?_
      refine r_iload4 dJ43_siftUpUsingComparator_37 ?_
      refine r_istore0 dJ43_siftUpUsingComparator_39 ?_
      refine r_goto (tgt := 0) dJ43_siftUpUsingComparator_40 (by decide) ?_
      exact top _ _ e1
    · skip
      refine r_if_ltN (tgt := 32) dJ43_siftUpUsingComparator_26 (by decide) (by omega) (fun c26 => absurd c26 (by omega)) (fun c26 => ?_)
      refine r_goto (tgt := 43) dJ43_siftUpUsingComparator_29 (by decide) ?_
      refine r_aload2 dJ43_siftUpUsingComparator_43 ?_
      refine r_iload0 dJ43_siftUpUsingComparator_44 ?_
      refine r_aload1 dJ43_siftUpUsingComparator_45 ?_
      refine r_aastore (k) dJ43_siftUpUsingComparator_46 ga_O gc_X14 q4063 (by omega) he ea rfl (by omega) (by first | omega | simp; omega) ?_
      exact r_return dJ43_siftUpUsingComparator_47 rfl (⟨by rw [if_neg (by omega)], rfl⟩)
    · skip
      refine r_if_ltN (tgt := 32) dJ43_siftUpUsingComparator_26 (by decide) (by omega) (fun c26 => absurd c26 (by omega)) (fun c26 => ?_)
      refine r_goto (tgt := 43) dJ43_siftUpUsingComparator_29 (by decide) ?_
      refine r_aload2 dJ43_siftUpUsingComparator_43 ?_
      refine r_iload0 dJ43_siftUpUsingComparator_44 ?_
      refine r_aload1 dJ43_siftUpUsingComparator_45 ?_
      refine r_aastore (k) dJ43_siftUpUsingComparator_46 ga_O gc_X14 q4063 (by omega) he ea rfl (by omega) (by first | omega | simp; omega) ?_
      exact r_return dJ43_siftUpUsingComparator_47 rfl (⟨by rw [if_neg (by omega)], rfl⟩)
  rcases hk with rfl | rfl
  · skip
    refine g_Met.of (M := mJ43_siftUpUsingComparator) (L := [some (.int (nI 1)), some (.ref x), some (.ref e), some (.ref c), none, none]) (by decide +kernel) (Nat.le_of_ble_eq_true rfl) rfl ?_
    refine r_iload0 dJ43_siftUpUsingComparator_0 ?_
    refine r_if_leN (tgt := 43) dJ43_siftUpUsingComparator_1 (by decide) (by omega) (fun c1 => absurd c1 (by omega)) (fun c1 => ?_)
    refine r_iload0 dJ43_siftUpUsingComparator_4 ?_
    refine r_iconst (v := nI 1) dJ43_siftUpUsingComparator_5 (by decide) ?_
    refine r_isub dJ43_siftUpUsingComparator_6 (by first | exact pk_sub (by omega) | rfl) ?_
    refine r_iconst (v := nI 1) dJ43_siftUpUsingComparator_7 (by decide) ?_
    refine r_iushr dJ43_siftUpUsingComparator_8 (show _ = nI 0 by decide) ?_
    refine r_istore4 dJ43_siftUpUsingComparator_9 ?_
    refine r_aload2 dJ43_siftUpUsingComparator_11 ?_
    refine r_iload4 dJ43_siftUpUsingComparator_12 ?_
    refine r_aaload (0) dJ43_siftUpUsingComparator_14 ga_O rfl he rfl (by omega) h0 ?_
    refine r_astore5 dJ43_siftUpUsingComparator_15 ?_
    refine r_aload3 dJ43_siftUpUsingComparator_17 ?_
    refine r_aload1 dJ43_siftUpUsingComparator_18 ?_
    refine r_aload5 dJ43_siftUpUsingComparator_19 ?_
    refine r_callF (M' := mX13_compare) _ dJ43_siftUpUsingComparator_21 q978 q980 q979 rfl q982 q984 q985 q983 q981 rfl (lw_all_tbl q986) q185 (by exact (⟨by decide, by decide, by decide +kernel⟩ : g_pl ⟨"java/util/Comparator", "compare", "(Ljava/lang/Object;Ljava/lang/Object;)I"⟩ 2)) gc_X13 hc ((k_X13_compare hc ox0 oa0)) (by omega) (Nat.le_of_ble_eq_true rfl) (by omega) (by omega) rfl (Nat.le_of_ble_eq_true rfl) rfl (kI fun r21 h21 n21 e21 => ?_) kN
    obtain ⟨e21, q8, q7⟩ := e21; have q8 := q8.symm; have q7 := q7.symm; subst q8; subst q7
    exact k26 _ e21
  · skip
    refine g_Met.of (M := mJ43_siftUpUsingComparator) (L := [some (.int (nI 2)), some (.ref x), some (.ref e), some (.ref c), none, none]) (by decide +kernel) (Nat.le_of_ble_eq_true rfl) rfl ?_
    refine r_iload0 dJ43_siftUpUsingComparator_0 ?_
    refine r_if_leN (tgt := 43) dJ43_siftUpUsingComparator_1 (by decide) (by omega) (fun c1 => absurd c1 (by omega)) (fun c1 => ?_)
    refine r_iload0 dJ43_siftUpUsingComparator_4 ?_
    refine r_iconst (v := nI 1) dJ43_siftUpUsingComparator_5 (by decide) ?_
    refine r_isub dJ43_siftUpUsingComparator_6 (by first | exact pk_sub (by omega) | rfl) ?_
    refine r_iconst (v := nI 1) dJ43_siftUpUsingComparator_7 (by decide) ?_
    refine r_iushr dJ43_siftUpUsingComparator_8 (show _ = nI 0 by decide) ?_
    refine r_istore4 dJ43_siftUpUsingComparator_9 ?_
    refine r_aload2 dJ43_siftUpUsingComparator_11 ?_
    refine r_iload4 dJ43_siftUpUsingComparator_12 ?_
    refine r_aaload (0) dJ43_siftUpUsingComparator_14 ga_O rfl he rfl (by omega) h0 ?_
    refine r_astore5 dJ43_siftUpUsingComparator_15 ?_
    refine r_aload3 dJ43_siftUpUsingComparator_17 ?_
    refine r_aload1 dJ43_siftUpUsingComparator_18 ?_
    refine r_aload5 dJ43_siftUpUsingComparator_19 ?_
    refine r_callF (M' := mX13_compare) _ dJ43_siftUpUsingComparator_21 q978 q980 q979 rfl q982 q984 q985 q983 q981 rfl (lw_all_tbl q986) q185 (by exact (⟨by decide, by decide, by decide +kernel⟩ : g_pl ⟨"java/util/Comparator", "compare", "(Ljava/lang/Object;Ljava/lang/Object;)I"⟩ 2)) gc_X13 hc ((k_X13_compare hc ox0 oa0)) (by omega) (Nat.le_of_ble_eq_true rfl) (by omega) (by omega) rfl (Nat.le_of_ble_eq_true rfl) rfl (kI fun r21 h21 n21 e21 => ?_) kN
    obtain ⟨e21, q8, q7⟩ := e21; have q8 := q8.symm; have q7 := q7.symm; subst q8; subst q7
    exact k26 _ e21
/-- an oven put into a queue -/
def pqAdd (wt : Nat → Nat) (As : List Nat) (x : Nat) : List Nat := match As with
  | [] => [x]
  | a :: As => if wt x < wt a then x :: As ++ [a] else a :: As ++ [x]
/-- the least taken away: the last goes to the front, and down -/
def pqPoll (wt : Nat → Nat) (As : List Nat) : List Nat := match As with
  | [_, b] => [b]
  | [_, b, d] => if wt d ≤ wt b then [d, b] else [b, d]
  | _ => []
theorem pqAdd_perm {As : List Nat} {x : Nat} : (pqAdd wt As x).Perm (x :: As) := by
  cases As with
  | nil => exact List.Perm.refl _
  | cons a As =>
    show (if wt x < wt a then x :: As ++ [a] else a :: As ++ [x]).Perm (x :: a :: As)
    split
    · exact List.Perm.cons _ (List.perm_append_singleton a As)
    · exact List.perm_append_singleton x (a :: As)
theorem pqAdd_hp {As : List Nat} {x : Nat} (hp : hpL wt As) : hpL wt (pqAdd wt As x) := by
  cases As with
  | nil => intro y hy; simp at hy
  | cons a As =>
    show hpL wt (if wt x < wt a then x :: As ++ [a] else a :: As ++ [x])
    split
    · rename_i h1
      intro y hy
      rcases List.mem_append.mp hy with q | q
      · have := hp y q; omega
      · simp at q; rw [q]; omega
    · rename_i h1
      intro y hy
      rcases List.mem_append.mp hy with q | q
      · exact hp y q
      · simp at q; rw [q]; omega
theorem pqPoll_perm {a : Nat} {As : List Nat} (hl : As.length ≤ 2) : (pqPoll wt (a :: As)).Perm As := by
  match As, hl with
  | [], _ => exact List.Perm.refl _
  | [b], _ => exact List.Perm.refl _
  | [b, d], _ =>
    show (if wt d ≤ wt b then [d, b] else [b, d]).Perm [b, d]
    split
    · exact List.Perm.swap _ _ _
    · exact List.Perm.refl _
theorem pqPoll_hp {a : Nat} {As : List Nat} (hl : As.length ≤ 2) : hpL wt (pqPoll wt (a :: As)) := by
  match As, hl with
  | [], _ => exact trivial
  | [b], _ => intro y hy; simp at hy
  | [b, d], _ =>
    show hpL wt (if wt d ≤ wt b then [d, b] else [b, d])
    split
    · intro y hy; simp at hy; rw [hy]; omega
    · intro y hy; simp at hy; rw [hy]; omega
theorem k_siftUp {x r : Nat} {As : List Nat} (p : pqT K q e c m As h) (hl : As.length ≤ 2) (ox : ovT h wt x) (oA : ∀ a ∈ As, ovT h wt a) (xe : x ≠ e) (er : As.length + 1 + r = 11) : g_Met K mJ43_siftUp 4 0 0 [.ref q, .int (nI As.length), .ref x] h n (gV fun h' n' => h' = g_up h e (g_ar 5 ((pqAdd wt As x).map Value.ref ++ List.replicate r .null)) ∧ n' = n) gN := by
  obtain ⟨p1, ⟨r0, p2, p3⟩, p4, p5, p6⟩ := p
  obtain ⟨rfl⟩ : r0 = r + 1 := by omega
  refine g_Met.of (M := mJ43_siftUp) (L := [some (.ref q), some (.int (nI As.length)), some (.ref x)]) (by decide +kernel) (Nat.le_of_ble_eq_true rfl) rfl ?_
  match As, hl with
  | [], _ =>
    refine r_aload0 dJ43_siftUp_0 ?_
    refine f_J43_21_J43 dJ43_siftUp_1 (by first | assumption | exact g_us | (rw [g_un (by omega)]; assumption) | (rw [g_un (by omega)]; exact g_us) | (rw [g_un (by omega), g_un (by omega)]; assumption) | (rw [g_un (by omega), g_un (by omega)]; exact g_us) | (rw [g_un (by omega), g_un (by omega), g_un (by omega)]; assumption) | ((repeat (rw [g_un (by omega)])); first | exact g_us | assumption)) ?_
    refine r_ifnull dJ43_siftUp_4 ?_
    refine r_iload1 dJ43_siftUp_7 ?_
    refine r_aload2 dJ43_siftUp_8 ?_
    refine r_aload0 dJ43_siftUp_9 ?_
    refine f_J43_17_J43 dJ43_siftUp_10 (by first | assumption | exact g_us | (rw [g_un (by omega)]; assumption) | (rw [g_un (by omega)]; exact g_us) | (rw [g_un (by omega), g_un (by omega)]; assumption) | (rw [g_un (by omega), g_un (by omega)]; exact g_us) | (rw [g_un (by omega), g_un (by omega), g_un (by omega)]; assumption) | ((repeat (rw [g_un (by omega)])); first | exact g_us | assumption)) ?_
    refine r_aload0 dJ43_siftUp_13 ?_
    refine f_J43_21_J43 dJ43_siftUp_14 (by first | assumption | exact g_us | (rw [g_un (by omega)]; assumption) | (rw [g_un (by omega)]; exact g_us) | (rw [g_un (by omega), g_un (by omega)]; assumption) | (rw [g_un (by omega), g_un (by omega)]; exact g_us) | (rw [g_un (by omega), g_un (by omega), g_un (by omega)]; assumption) | ((repeat (rw [g_un (by omega)])); first | exact g_us | assumption)) ?_
    refine r_callS (M' := mJ43_siftUpUsingComparator) _ dJ43_siftUp_17 q974 q975 rfl (lw_all_tbl q976) q184 (by exact pl_J43_siftUpUsingComparator)  ((k_siftUp0 p4 p2 (by simp at p3 ⊢; omega) ox)) (by omega) (Nat.le_of_ble_eq_true rfl) (by omega) (by omega) rfl (Nat.le_of_ble_eq_true rfl) rfl (kV fun h17 n17 e17 => ?_) kN
    obtain ⟨q8, q7⟩ := e17; have q8 := q8.symm; have q7 := q7.symm; subst q8; subst q7
    refine r_goto (tgt := 32) dJ43_siftUp_20 (by decide) ?_
    exact r_return dJ43_siftUp_32 rfl (⟨rfl, rfl⟩)
  | [a0], _ =>
    refine r_aload0 dJ43_siftUp_0 ?_
    refine f_J43_21_J43 dJ43_siftUp_1 (by first | assumption | exact g_us | (rw [g_un (by omega)]; assumption) | (rw [g_un (by omega)]; exact g_us) | (rw [g_un (by omega), g_un (by omega)]; assumption) | (rw [g_un (by omega), g_un (by omega)]; exact g_us) | (rw [g_un (by omega), g_un (by omega), g_un (by omega)]; assumption) | ((repeat (rw [g_un (by omega)])); first | exact g_us | assumption)) ?_
    refine r_ifnull dJ43_siftUp_4 ?_
    refine r_iload1 dJ43_siftUp_7 ?_
    refine r_aload2 dJ43_siftUp_8 ?_
    refine r_aload0 dJ43_siftUp_9 ?_
    refine f_J43_17_J43 dJ43_siftUp_10 (by first | assumption | exact g_us | (rw [g_un (by omega)]; assumption) | (rw [g_un (by omega)]; exact g_us) | (rw [g_un (by omega), g_un (by omega)]; assumption) | (rw [g_un (by omega), g_un (by omega)]; exact g_us) | (rw [g_un (by omega), g_un (by omega), g_un (by omega)]; assumption) | ((repeat (rw [g_un (by omega)])); first | exact g_us | assumption)) ?_
    refine r_aload0 dJ43_siftUp_13 ?_
    refine f_J43_21_J43 dJ43_siftUp_14 (by first | assumption | exact g_us | (rw [g_un (by omega)]; assumption) | (rw [g_un (by omega)]; exact g_us) | (rw [g_un (by omega), g_un (by omega)]; assumption) | (rw [g_un (by omega), g_un (by omega)]; exact g_us) | (rw [g_un (by omega), g_un (by omega), g_un (by omega)]; assumption) | ((repeat (rw [g_un (by omega)])); first | exact g_us | assumption)) ?_
    refine r_callS (M' := mJ43_siftUpUsingComparator) _ dJ43_siftUp_17 q974 q975 rfl (lw_all_tbl q976) q184 (by exact pl_J43_siftUpUsingComparator)  ((k_siftUpK (Or.inl rfl) p4 p6 p2 (by simp at p3 ⊢; omega) rfl ox (oA a0 (by simp)) xe)) (by omega) (Nat.le_of_ble_eq_true rfl) (by omega) (by omega) rfl (Nat.le_of_ble_eq_true rfl) rfl (kV fun h17 n17 e17 => ?_) kN
    obtain ⟨q8, q7⟩ := e17; have q8 := q8.symm; have q7 := q7.symm; subst q8; subst q7
    refine r_goto (tgt := 32) dJ43_siftUp_20 (by decide) ?_
    exact r_return dJ43_siftUp_32 rfl (⟨by simp only [pqAdd]; split <;> rfl, rfl⟩)
  | [a0, a1], _ =>
    refine r_aload0 dJ43_siftUp_0 ?_
    refine f_J43_21_J43 dJ43_siftUp_1 (by first | assumption | exact g_us | (rw [g_un (by omega)]; assumption) | (rw [g_un (by omega)]; exact g_us) | (rw [g_un (by omega), g_un (by omega)]; assumption) | (rw [g_un (by omega), g_un (by omega)]; exact g_us) | (rw [g_un (by omega), g_un (by omega), g_un (by omega)]; assumption) | ((repeat (rw [g_un (by omega)])); first | exact g_us | assumption)) ?_
    refine r_ifnull dJ43_siftUp_4 ?_
    refine r_iload1 dJ43_siftUp_7 ?_
    refine r_aload2 dJ43_siftUp_8 ?_
    refine r_aload0 dJ43_siftUp_9 ?_
    refine f_J43_17_J43 dJ43_siftUp_10 (by first | assumption | exact g_us | (rw [g_un (by omega)]; assumption) | (rw [g_un (by omega)]; exact g_us) | (rw [g_un (by omega), g_un (by omega)]; assumption) | (rw [g_un (by omega), g_un (by omega)]; exact g_us) | (rw [g_un (by omega), g_un (by omega), g_un (by omega)]; assumption) | ((repeat (rw [g_un (by omega)])); first | exact g_us | assumption)) ?_
    refine r_aload0 dJ43_siftUp_13 ?_
    refine f_J43_21_J43 dJ43_siftUp_14 (by first | assumption | exact g_us | (rw [g_un (by omega)]; assumption) | (rw [g_un (by omega)]; exact g_us) | (rw [g_un (by omega), g_un (by omega)]; assumption) | (rw [g_un (by omega), g_un (by omega)]; exact g_us) | (rw [g_un (by omega), g_un (by omega), g_un (by omega)]; assumption) | ((repeat (rw [g_un (by omega)])); first | exact g_us | assumption)) ?_
    refine r_callS (M' := mJ43_siftUpUsingComparator) _ dJ43_siftUp_17 q974 q975 rfl (lw_all_tbl q976) q184 (by exact pl_J43_siftUpUsingComparator)  ((k_siftUpK (Or.inr rfl) p4 p6 p2 (by simp at p3 ⊢; omega) rfl ox (oA a0 (by simp)) xe)) (by omega) (Nat.le_of_ble_eq_true rfl) (by omega) (by omega) rfl (Nat.le_of_ble_eq_true rfl) rfl (kV fun h17 n17 e17 => ?_) kN
    obtain ⟨q8, q7⟩ := e17; have q8 := q8.symm; have q7 := q7.symm; subst q8; subst q7
    refine r_goto (tgt := 32) dJ43_siftUp_20 (by decide) ?_
    exact r_return dJ43_siftUp_32 rfl (⟨by simp only [pqAdd]; split <;> rfl, rfl⟩)
theorem k_offer {x : Nat} {As : List Nat} (hb : k_b K ≤ q) (p : pqT K q e c m As h) (hl : As.length ≤ 2) (ox : ovT h wt x) (oA : ∀ a ∈ As, ovT h wt a) (xe : x ≠ e) : g_Met K mJ43_offer 5 0 0 [.ref q, .ref x] h n (gI fun rr h' n' => rr = nI 1 ∧ pqT K q e c (m + nI 1) (pqAdd wt As x) h' ∧ (∀ z : Nat, z ≠ q → z ≠ e → h' z = h z) ∧ n' = n) gN := by
  have p0 := p
  obtain ⟨p1, ⟨r0, p2, p3⟩, p4, p5, p6⟩ := p
  obtain ⟨r, rfl⟩ : ∃ r, r0 = r + 1 := ⟨r0 - 1, by omega⟩
  have nq : ∀ a, ovT h wt a → a ≠ q := fun a o e9 => by obtain ⟨i, t, -, -, eo, -⟩ := o; rw [e9, p1] at eo; simp [g_ob] at eo
  have cq : c ≠ q := fun e9 => by rw [e9, p1] at p6; simp [g_ob] at p6
  have ce : c ≠ e := fun e9 => by rw [e9, p2] at p6; simp [g_ob, g_ar] at p6
  have up : ∀ a, ovT h wt a → ovT (g_up h q (g_ob 39 [.ref e, .int (nI As.length), .ref c, .int (m + nI 1)])) wt a := fun a o => by
    have := nq a o
    obtain ⟨i, t, o1, o2, eo, o3⟩ := o
    exact ⟨i, t, o1, o2, by rw [g_un this]; exact eo, o3⟩
  have pl : (pqAdd wt As x).length = As.length + 1 := by rw [pqAdd_perm.length_eq]; rfl
  refine g_Met.of (M := mJ43_offer) (L := [some (.ref q), some (.ref x), none]) (by decide +kernel) (Nat.le_of_ble_eq_true rfl) rfl ?_
  refine r_aload1 dJ43_offer_0 ?_
  refine r_ifnonnull (tgt := 12) dJ43_offer_1 (by decide) ?_
  refine r_aload0 dJ43_offer_12 ?_
  refine r_dup dJ43_offer_13 ?_
  refine f_J43_93_J43 dJ43_offer_14 (by first | assumption | exact g_us | (rw [g_un (by omega)]; assumption) | (rw [g_un (by omega)]; exact g_us) | (rw [g_un (by omega), g_un (by omega)]; assumption) | (rw [g_un (by omega), g_un (by omega)]; exact g_us) | (rw [g_un (by omega), g_un (by omega), g_un (by omega)]; assumption) | ((repeat (rw [g_un (by omega)])); first | exact g_us | assumption)) ?_
  refine r_iconst (v := nI 1) dJ43_offer_17 (by decide) ?_
  refine r_iadd dJ43_offer_18 (by first | exact nI_add _ _ | rfl) ?_
  refine p_J43_93_J43 dJ43_offer_19 (by omega) (by first | assumption | exact g_us | (rw [g_un (by omega)]; assumption) | (rw [g_un (by omega)]; exact g_us) | (rw [g_un (by omega), g_un (by omega)]; assumption) | (rw [g_un (by omega), g_un (by omega)]; exact g_us) | (rw [g_un (by omega), g_un (by omega), g_un (by omega)]; assumption) | ((repeat (rw [g_un (by omega)])); first | exact g_us | assumption)) ?_
  refine r_aload0 dJ43_offer_22 ?_
  refine f_J43_58_J43 dJ43_offer_23 (by first | assumption | exact g_us | (rw [g_un (by omega)]; assumption) | (rw [g_un (by omega)]; exact g_us) | (rw [g_un (by omega), g_un (by omega)]; assumption) | (rw [g_un (by omega), g_un (by omega)]; exact g_us) | (rw [g_un (by omega), g_un (by omega), g_un (by omega)]; assumption) | ((repeat (rw [g_un (by omega)])); first | exact g_us | assumption)) ?_
  refine r_istore2 dJ43_offer_26 ?_
  refine r_iload2 dJ43_offer_27 ?_
  refine r_aload0 dJ43_offer_28 ?_
  refine f_J43_17_J43 dJ43_offer_29 g_us ?_
  refine r_arraylength dJ43_offer_32 ga_O (by rw [g_un p5]; exact p2) (show _ = nI 11 by rw [show (As.map Value.ref ++ List.replicate (r + 1) Value.null).length = 11 by simp; omega]) ?_
  refine r_icmp_ltN (tgt := 43) dJ43_offer_33 (by decide) (by omega) (by omega) (fun c33 => ?_) (fun c33 => absurd c33 (by omega))
  refine r_aload0 dJ43_offer_43 ?_
  refine r_iload2 dJ43_offer_44 ?_
  refine r_aload1 dJ43_offer_45 ?_
  refine r_callV (M' := mJ43_siftUp) _ dJ43_offer_46 q970 q972 qs8 rfl (lw_all_tbl q973) q184 (by exact pl_J43_siftUp) gc_J43 g_us ((k_siftUp (r := r) (q := q) (e := e) (c := c) (m := m + nI 1) ⟨g_us, ⟨r + 1, by rw [g_un p5]; exact p2, p3⟩, p4, p5, by rw [g_un cq]; exact p6⟩ hl (up x ox) (fun a ha => up a (oA a ha)) xe (by omega))) (by omega) (Nat.le_of_ble_eq_true rfl) (by omega) (by omega) rfl (Nat.le_of_ble_eq_true rfl) rfl (kV fun h46 n46 e46 => ?_) kN
  obtain ⟨q8, q7⟩ := e46; have q8 := q8.symm; have q7 := q7.symm; subst q8; subst q7
  refine r_aload0 dJ43_offer_49 ?_
  refine r_iload2 dJ43_offer_50 ?_
  refine r_iconst (v := nI 1) dJ43_offer_51 (by decide) ?_
  refine r_iadd dJ43_offer_52 (by first | exact nI_add _ _ | rfl) ?_
  refine p_J43_58_J43 dJ43_offer_53 (by omega) (by rw [g_un (Ne.symm p5), g_us]) ?_
  refine r_iconst (v := nI 1) dJ43_offer_56 (by decide) ?_
  exact r_ireturn dJ43_offer_57 rfl (by first | exact nB_nar | rfl) (⟨rfl, ⟨by rw [g_us, pl], ⟨r, by rw [g_un p5, g_us], by rw [pl]; omega⟩, p4, p5, by rw [g_un cq, g_un ce, g_un cq]; exact p6⟩, fun z z1 z2 => by rw [g_un z1, g_un z2, g_un z1], rfl⟩)
theorem k_pqAdd {x : Nat} {As : List Nat} (hb : k_b K ≤ q) (p : pqT K q e c m As h) (hl : As.length ≤ 2) (ox : ovT h wt x) (oA : ∀ a ∈ As, ovT h wt a) (xe : x ≠ e) : g_Met K mJ43_add 6 0 0 [.ref q, .ref x] h n (gI fun rr h' n' => rr = nI 1 ∧ pqT K q e c (m + nI 1) (pqAdd wt As x) h' ∧ (∀ z : Nat, z ≠ q → z ≠ e → h' z = h z) ∧ n' = n) gN := by
  have p1 := p.1
  refine g_Met.of (M := mJ43_add) (L := [some (.ref q), some (.ref x)]) (by decide +kernel) (Nat.le_of_ble_eq_true rfl) rfl ?_
  refine r_aload0 dJ43_add_0 ?_
  refine r_aload1 dJ43_add_1 ?_
  refine r_callV (M' := mJ43_offer) _ dJ43_add_2 q904 q905 q906 rfl (lw_all_tbl q907) q184 (by exact pl_J43_offer) gc_J43 (by first | assumption | exact g_us | (rw [g_un (by omega)]; assumption) | (rw [g_un (by omega)]; exact g_us) | (rw [g_un (by omega), g_un (by omega)]; assumption) | (rw [g_un (by omega), g_un (by omega)]; exact g_us) | (rw [g_un (by omega), g_un (by omega), g_un (by omega)]; assumption) | ((repeat (rw [g_un (by omega)])); first | exact g_us | assumption)) ((k_offer hb p hl ox oA xe)) (by omega) (Nat.le_of_ble_eq_true rfl) (by omega) (by omega) rfl (Nat.le_of_ble_eq_true rfl) rfl (kI fun r2 h2 n2 e2 => ?_) kN
  obtain ⟨rfl, e2, e2a, rfl⟩ := e2
  exact r_ireturn dJ43_add_5 rfl (by first | exact nB_nar | rfl) (⟨rfl, e2, e2a, rfl⟩)
end
