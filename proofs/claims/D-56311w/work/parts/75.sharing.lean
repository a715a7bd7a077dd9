/-! sharing: quotas, rests, what is left, the share by ranks -/
set_option maxRecDepth 100000
def shO (ll c : Nat) (ρ : Nat → Nat) : g_C := g_ob 7 [.ref ll, .int (nI c), .int (nI (wts ρ))]
section
variable {K : g_K} {W : c_W} {A : Nat → Nat} {lo hi b t l e n u ll el s c : Nat} {ρ ρ' : Nat → Nat} {α : Nat → Int64} {h h' : g_P}
theorem k_X9_init (k : bkL_ K W lo hi ll el ρ h) (hh : hi ≤ n) (w : wB u ρ) (hb : k_b K ≤ s) (hs : s < n) {v0 v1 v2 : Value} (ho : h s = some (g_ob 7 [v0, v1, v2])) : g_Met K mX9_init 3 1 4 [.ref s, .ref ll, .int (nI c)] h n (gV fun h' n' => h' s = some (shO ll c ρ) ∧ (∀ q : Nat, q < n → q ≠ s → h' q = h q) ∧ n' = n + 1) gN := by
  refine g_Met.facts fun f1 f2 f3 => ?_
  have wb := w.b
  obtain ⟨b1, b2, b3, mb, B, b4, b5⟩ := k
  have b40 := b4
  obtain ⟨b41, br, b42, b43⟩ := b4
  have n1 : ll ≠ s := fun z => by rw [z, ho] at b41; exact absurd (obj_inj b41) (by decide)
  have n2 : el ≠ s := fun z => by rw [z, ho] at b42; exact obj_arr b42
  have n3 : ∀ j, j < ρ 2 → B j ≠ s := fun j hj z => by have := (b5 j hj).1; rw [z, ho] at this; exact absurd (obj_inj this) (by decide)
  have l1 := b1.2
  have b40' : lsT K W ll el mb (blist (ρ 2) B) (g_up (g_up h s (g_ob 7 [.ref ll, v1, v2])) s (g_ob 7 [.ref ll, .int (nI c), v2])) := b40.of (by rw [g_un n1, g_un n1]) (by rw [g_un n2, g_un n2])
  have loop : ∀ (g j : Nat) (v9 : Value) (o5 : Option Value), j + g = ρ 2 → g_c1 o5 → g_G K mX9_init 3 0 0 (gV fun h' n' => h' s = some (shO ll c ρ) ∧ (∀ q : Nat, q < n → q ≠ s → h' q = h q) ∧ n' = n + 1) gN 24 [some (.ref s), some (.ref ll), some (.int (nI c)), some (.int (nI (sm (fun k => ρ (32 + 3 * k)) j))), some (.ref n), o5] [] (g_up (g_up h s (g_ob 7 [.ref ll, .int (nI c), v2])) n (g_ob 31 [.int (nI j), v9, .int mb, .ref ll])) (n + 1) := by
    intro g
    induction g with
    | zero =>
      intro j v9 o5 hj g5
      have : j = ρ 2 := by omega
      subst this
      have b6 : lsT K W ll el mb (blist (ρ 2) B) (g_up (g_up h s (g_ob 7 [.ref ll, .int (nI c), v2])) n (g_ob 31 [.int (nI (ρ 2)), v9, .int mb, .ref ll])) := b40.of (by rw [g_un (by omega), g_un n1]) (by rw [g_un (by omega), g_un n2])
      refine r_aload4 dX9_init_24 ?_
      refine r_callF (M' := mJ33_hasNext) _ dX9_init_26 q1915 q1357 q1356 rfl q1376 q1378 q1379 q1377 q1375 rfl (lw_all_tbl q1380) q167 (by exact (⟨by decide, by decide, by decide +kernel⟩ : g_pl ⟨"java/util/Iterator", "hasNext", "()Z"⟩ 0)) gc_J33 g_us ((k_J33_hasNext b6 (by rw [blist_len]; exact Nat.le_refl _) g_us)) (by omega) (Nat.le_of_ble_eq_true rfl) (by omega) (by omega) rfl (Nat.le_of_ble_eq_true rfl) rfl (kI fun r26 h26 n26 e26 => ?_) kN
      obtain ⟨q9, q8, q7⟩ := e26; have q9 := q9.symm; have q8 := q8.symm; have q7 := q7.symm; subst q9; subst q8; subst q7
      refine r_if_eqB (tgt := 57) dX9_init_31 (by decide) (fun c31 => ?_) (fun c31 => absurd c31 (by rw [blist_len]; omega))
      refine r_aload0 dX9_init_57 ?_
      refine r_iload3 dX9_init_58 ?_
      refine p_X9_38_X9 dX9_init_59 (by omega) (by rw [g_un (by omega), g_us]) ?_
      exact r_return dX9_init_62 rfl (⟨g_us, fun q h1 h2 => by rw [g_un h2, g_un (by omega), g_un h2], rfl⟩)
    | succ g ih =>
      intro j v9 o5 hj g5
      have hjl : j < ρ 2 := by omega
      obtain ⟨d1, d2, d3⟩ := b5 j hjl
      have d4 := d2.2
      have b6 : lsT K W ll el mb (blist (ρ 2) B) (g_up (g_up h s (g_ob 7 [.ref ll, .int (nI c), v2])) n (g_ob 31 [.int (nI j), v9, .int mb, .ref ll])) := b40.of (by rw [g_un (by omega), g_un n1]) (by rw [g_un (by omega), g_un n2])
      have e1 : (g_up (g_up (g_up h s (g_ob 7 [.ref ll, .int (nI c), v2])) n (g_ob 31 [.int (nI j), v9, .int mb, .ref ll])) n (g_ob 31 [.int (nI (j + 1)), .int (nI j), .int mb, .ref ll])) (B j) = some (lf ρ j) := by rw [g_un (by omega), g_un (by omega), g_un (n3 j hjl), d1]
      refine r_aload4 dX9_init_24 ?_
      refine r_callF (M' := mJ33_hasNext) _ dX9_init_26 q1915 q1357 q1356 rfl q1376 q1378 q1379 q1377 q1375 rfl (lw_all_tbl q1380) q167 (by exact (⟨by decide, by decide, by decide +kernel⟩ : g_pl ⟨"java/util/Iterator", "hasNext", "()Z"⟩ 0)) gc_J33 g_us ((k_J33_hasNext b6 (by rw [blist_len]; omega) g_us)) (by omega) (Nat.le_of_ble_eq_true rfl) (by omega) (by omega) rfl (Nat.le_of_ble_eq_true rfl) rfl (kI fun r26 h26 n26 e26 => ?_) kN
      obtain ⟨q9, q8, q7⟩ := e26; have q9 := q9.symm; have q8 := q8.symm; have q7 := q7.symm; subst q9; subst q8; subst q7
      refine r_if_eqB (tgt := 57) dX9_init_31 (by decide) (fun c31 => absurd c31 (by rw [blist_len]; omega)) (fun c31 => ?_)
      refine r_aload4 dX9_init_34 ?_
      refine r_callF (M' := mJ33_next) _ dX9_init_36 q1917 q1399 q1398 rfl q1505 q1507 q1508 q1506 q1375 rfl (lw_all_tbl q1509) q167 (by exact (⟨by decide, by decide, by decide +kernel⟩ : g_pl ⟨"java/util/Iterator", "next", "()Ljava/lang/Object;"⟩ 0)) gc_J33 g_us ((k_J33_next f1 (by omega) b6 (by omega) (blist_at hjl) (Or.inr ⟨_, rfl⟩) g_us)) (by omega) (Nat.le_of_ble_eq_true rfl) (by omega) (by omega) rfl (Nat.le_of_ble_eq_true rfl) rfl (kA fun r36 h36 n36 t36 e36 => ?_) kN
      obtain ⟨q9, q8, q7⟩ := e36; have q9 := q9.symm; have q8 := q8.symm; have q7 := q7.symm; subst q9; subst q8; subst q7
      refine r_checkcast dX9_init_41 gc_X8 q1918 (Or.inl rfl) e1 ?_
      refine r_astore5 dX9_init_44 ?_
      refine r_iload3 dX9_init_46 ?_
      refine r_aload5 dX9_init_47 ?_
      refine f_X9_35_X8 dX9_init_49 e1 ?_
      refine r_iadd dX9_init_52 (show _ = nI (sm (fun k => ρ (32 + 3 * k)) (j + 1)) by rw [nI_add]; rfl) ?_
      refine r_istore3 dX9_init_53 ?_
      refine r_goto (tgt := 24) dX9_init_54 (by decide) ?_
      rw [g_up_up]
      exact ih (j + 1) _ _ (by omega) g_c1r
  refine g_Met.of (M := mX9_init) (L := [some (.ref s), some (.ref ll), some (.int (nI c)), none, none, none]) (by decide +kernel) (Nat.le_of_ble_eq_true rfl) rfl ?_
  refine r_aload0 dX9_init_0 ?_
  refine r_objInit dX9_init_1 q1911 q200 q201 rfl (by omega) (Nat.le_of_ble_eq_true rfl) ?_
  refine r_aload0 dX9_init_4 ?_
  refine r_aload1 dX9_init_5 ?_
  refine p_X9_7_X9 dX9_init_6 (by omega) ho ?_
  refine r_aload0 dX9_init_9 ?_
  refine r_iload2 dX9_init_10 ?_
  refine p_X9_13_X9 dX9_init_11 (by omega) g_us ?_
  refine r_iconst (v := nI 0) dX9_init_14 (by decide) ?_
  refine r_istore3 dX9_init_15 ?_
  refine r_aload1 dX9_init_16 ?_
  refine r_callF (M' := mJ4_iterator) _ dX9_init_17 q1913 q1244 q1243 rfl q1245 q1247 q1248 q1246 q414 rfl (lw_all_tbl q1249) q131 (by exact (⟨by decide, by decide, by decide +kernel⟩ : g_pl ⟨"java/util/List", "iterator", "()Ljava/util/Iterator;"⟩ 0)) gc_J4 b40'.1 ((k_J4_iterator b40')) (by omega) (Nat.le_of_ble_eq_true rfl) (by omega) (by omega) rfl (Nat.le_of_ble_eq_true rfl) rfl (kA fun r17 h17 n17 t17 e17 => ?_) kN
  obtain ⟨q9, q8, q7⟩ := e17; have q9 := q9.symm; have q8 := q8.symm; have q7 := q7.symm; subst q9; subst q8; subst q7
  refine r_astore4 dX9_init_22 ?_
  rw [g_up_up]
  exact loop (ρ 2) 0 _ _ (by omega) g_c1n
theorem k_lowered (k : bkL_ K W lo hi ll el ρ h) (w : wB u ρ) (hc : c ≤ 9999) (ho : h s = some (shO ll c ρ)) {j : Nat} (hj : j < ρ 2) : g_Met K mX9_lowered 3 0 0 [.ref s, .int (nI j)] h n (gI fun r h' n' => r = nI (qt ρ c j) ∧ h' = h ∧ n' = n) gN := by
  have wp := wts_p w (by omega)
  have wl := wts_le w
  have cw := cw_b w hc hj
  obtain ⟨y1, y2, y3⟩ := k.cell
  obtain ⟨x, z1, z2, z3⟩ := k_getL (n := n) k hj
  refine g_Met.of (M := mX9_lowered) (L := [some (.ref s), some (.int (nI j))]) (by decide +kernel) (Nat.le_of_ble_eq_true rfl) rfl ?_
  refine r_aload0 dX9_lowered_0 ?_
  refine f_X9_13_X9 dX9_lowered_1 ho ?_
  refine r_aload0 dX9_lowered_4 ?_
  refine f_X9_7_X9 dX9_lowered_5 ho ?_
  refine r_iload1 dX9_lowered_8 ?_
  refine r_callF (M' := mJ4_get) _ dX9_lowered_9 q1955 q468 q467 rfl q469 q471 q472 q470 q414 rfl (lw_all_tbl q473) q131 (by exact (⟨by decide, by decide, by decide +kernel⟩ : g_pl ⟨"java/util/List", "get", "(I)Ljava/lang/Object;"⟩ 1)) gc_J4 y3 (z3) (by omega) (Nat.le_of_ble_eq_true rfl) (by omega) (by omega) rfl (Nat.le_of_ble_eq_true rfl) rfl (kA fun r9 h9 n9 t9 e9 => ?_) kN
  obtain ⟨q9, q8, q7⟩ := e9; have q9 := q9.symm; have q8 := q8.symm; have q7 := q7.symm; subst q9; subst q8; subst q7
  refine r_checkcast dX9_lowered_14 gc_X8 q1918 (Or.inl rfl) z1 ?_
  refine f_X9_35_X8 dX9_lowered_17 z1 ?_
  refine r_imul dX9_lowered_20 (pk_mul _ _) ?_
  refine r_aload0 dX9_lowered_21 ?_
  refine f_X9_38_X9 dX9_lowered_22 ho ?_
  refine r_idiv dX9_lowered_25 (nI_ne0 (by omega) (by omega)) (by first | exact pk_div (by omega) (by omega) (by omega) | rfl) ?_
  exact r_ireturn dX9_lowered_26 rfl rfl (⟨rfl, rfl, rfl⟩)
theorem k_rest9 (k : bkL_ K W lo hi ll el ρ h) (w : wB u ρ) (hc : c ≤ 9999) (ho : h s = some (shO ll c ρ)) {j : Nat} (hj : j < ρ 2) : g_Met K mX9_rest 3 0 0 [.ref s, .int (nI j)] h n (gI fun r h' n' => r = nI (rs ρ c j) ∧ h' = h ∧ n' = n) gN := by
  have wp := wts_p w (by omega)
  have wl := wts_le w
  have cw := cw_b w hc hj
  obtain ⟨y1, y2, y3⟩ := k.cell
  obtain ⟨x, z1, z2, z3⟩ := k_getL (n := n) k hj
  refine g_Met.of (M := mX9_rest) (L := [some (.ref s), some (.int (nI j))]) (by decide +kernel) (Nat.le_of_ble_eq_true rfl) rfl ?_
  refine r_aload0 dX9_rest_0 ?_
  refine f_X9_13_X9 dX9_rest_1 ho ?_
  refine r_aload0 dX9_rest_4 ?_
  refine f_X9_7_X9 dX9_rest_5 ho ?_
  refine r_iload1 dX9_rest_8 ?_
  refine r_callF (M' := mJ4_get) _ dX9_rest_9 q1955 q468 q467 rfl q469 q471 q472 q470 q414 rfl (lw_all_tbl q473) q131 (by exact (⟨by decide, by decide, by decide +kernel⟩ : g_pl ⟨"java/util/List", "get", "(I)Ljava/lang/Object;"⟩ 1)) gc_J4 y3 (z3) (by omega) (Nat.le_of_ble_eq_true rfl) (by omega) (by omega) rfl (Nat.le_of_ble_eq_true rfl) rfl (kA fun r9 h9 n9 t9 e9 => ?_) kN
  obtain ⟨q9, q8, q7⟩ := e9; have q9 := q9.symm; have q8 := q8.symm; have q7 := q7.symm; subst q9; subst q8; subst q7
  refine r_checkcast dX9_rest_14 gc_X8 q1918 (Or.inl rfl) z1 ?_
  refine f_X9_35_X8 dX9_rest_17 z1 ?_
  refine r_imul dX9_rest_20 (pk_mul _ _) ?_
  refine r_aload0 dX9_rest_21 ?_
  refine f_X9_38_X9 dX9_rest_22 ho ?_
  refine r_irem dX9_rest_25 (nI_ne0 (by omega) (by omega)) (by first | exact pk_rem (by omega) (by omega) (by omega) | rfl) ?_
  exact r_ireturn dX9_rest_26 rfl rfl (⟨rfl, rfl, rfl⟩)
theorem k_left (k : bkL_ K W lo hi ll el ρ h) (w : wB u ρ) (hc : c ≤ 9999) (ho : h s = some (shO ll c ρ)) : g_Met K mX9_left 4 0 0 [.ref s] h n (gI fun r h' n' => r = nI (c - sm (qt ρ c) (ρ 2)) ∧ h' = h ∧ n' = n) gN := by
  have wb := w.b
  obtain ⟨y1, y2, y3⟩ := k.cell
  have loop : ∀ (g j : Nat), j + g = ρ 2 → g_G K mX9_left 4 0 0 (gI fun r h' n' => r = nI (c - sm (qt ρ c) (ρ 2)) ∧ h' = h ∧ n' = n) gN 7 [some (.ref s), some (.int (nI (c - sm (qt ρ c) j))), some (.int (nI j))] [] h n := by
    intro g
    induction g with
    | zero =>
      intro j hj
      have : j = ρ 2 := by omega
      subst this
      refine r_iload2 dX9_left_7 ?_
      refine r_aload0 dX9_left_8 ?_
      refine f_X9_7_X9 dX9_left_9 ho ?_
      refine r_callF (M' := mJ4_size) _ dX9_left_12 q1949 q413 q412 rfl q415 q417 q418 q416 q414 rfl (lw_all_tbl q419) q131 (by exact (⟨by decide, by decide, by decide +kernel⟩ : g_pl ⟨"java/util/List", "size", "()I"⟩ 0)) gc_J4 y3 ((k_sizeL k)) (by omega) (Nat.le_of_ble_eq_true rfl) (by omega) (by omega) rfl (Nat.le_of_ble_eq_true rfl) rfl (kI fun r12 h12 n12 e12 => ?_) kN
      obtain ⟨q9, q8, q7⟩ := e12; have q9 := q9.symm; have q8 := q8.symm; have q7 := q7.symm; subst q9; subst q8; subst q7
      refine r_icmp_geN (tgt := 34) dX9_left_17 (by decide) (by omega) (by omega) (fun c17 => ?_) (fun c17 => absurd c17 (by omega))
      refine r_iload1 dX9_left_34 ?_
      exact r_ireturn dX9_left_35 rfl rfl (⟨rfl, rfl, rfl⟩)
    | succ g ih =>
      intro j hj
      have e1 : sm (qt ρ c) (j + 1) ≤ c := sm_qt (wts_p w (by omega)) (by omega)
      have e2 : sm (qt ρ c) (j + 1) = sm (qt ρ c) j + qt ρ c j := rfl
      refine r_iload2 dX9_left_7 ?_
      refine r_aload0 dX9_left_8 ?_
      refine f_X9_7_X9 dX9_left_9 ho ?_
      refine r_callF (M' := mJ4_size) _ dX9_left_12 q1949 q413 q412 rfl q415 q417 q418 q416 q414 rfl (lw_all_tbl q419) q131 (by exact (⟨by decide, by decide, by decide +kernel⟩ : g_pl ⟨"java/util/List", "size", "()I"⟩ 0)) gc_J4 y3 ((k_sizeL k)) (by omega) (Nat.le_of_ble_eq_true rfl) (by omega) (by omega) rfl (Nat.le_of_ble_eq_true rfl) rfl (kI fun r12 h12 n12 e12 => ?_) kN
      obtain ⟨q9, q8, q7⟩ := e12; have q9 := q9.symm; have q8 := q8.symm; have q7 := q7.symm; subst q9; subst q8; subst q7
      refine r_icmp_geN (tgt := 34) dX9_left_17 (by decide) (by omega) (by omega) (fun c17 => absurd c17 (by omega)) (fun c17 => ?_)
      refine r_iload1 dX9_left_20 ?_
      refine r_aload0 dX9_left_21 ?_
      refine r_iload2 dX9_left_22 ?_
      refine r_callV (M' := mX9_lowered) _ dX9_left_23 q1950 q1952 qs21 rfl (lw_all_tbl q1953) q178 (by exact pl_X9_lowered) gc_X9 ho ((k_lowered k w hc ho (by omega))) (by omega) (Nat.le_of_ble_eq_true rfl) (by omega) (by omega) rfl (Nat.le_of_ble_eq_true rfl) rfl (kI fun r23 h23 n23 e23 => ?_) kN
      obtain ⟨q9, q8, q7⟩ := e23; have q9 := q9.symm; have q8 := q8.symm; have q7 := q7.symm; subst q9; subst q8; subst q7
      refine r_isub dX9_left_26 (show _ = nI (c - sm (qt ρ c) (j + 1)) by rw [pk_sub (by omega), e2]; congr 1; omega) ?_
      refine r_istore1 dX9_left_27 ?_
      refine r_iinc2 dX9_left_28 (ii1 _) ?_
      refine r_goto (tgt := 7) dX9_left_31 (by decide) ?_
      exact ih (j + 1) (by omega)
  refine g_Met.of (M := mX9_left) (L := [some (.ref s), none, none]) (by decide +kernel) (Nat.le_of_ble_eq_true rfl) rfl ?_
  refine r_aload0 dX9_left_0 ?_
  refine f_X9_13_X9 dX9_left_1 ho ?_
  refine r_istore1 dX9_left_4 ?_
  refine r_iconst (v := nI 0) dX9_left_5 (by decide) ?_
  refine r_istore2 dX9_left_6 ?_
  exact loop (ρ 2) 0 (by omega)
theorem k_shareByRanks9 (k : bkL_ K W lo hi ll el ρ h) (w : wB u ρ) (hc : c ≤ 9999) (ho : h s = some (shO ll c ρ)) {a : Nat} (ha : a < ρ 2) : g_Met K mX9_shareByRanks 5 0 0 [.ref s, .int (nI a)] h n (gI fun r h' n' => r = nI (shr ρ c a) ∧ h' = h ∧ n' = n) gN := by
  have wb := w.b
  have wp := wts_p w (by omega)
  have wl := wts_le w
  have rb : ∀ j, rs ρ c j < 2147483648 := fun j => by
    have : rs ρ c j < wts ρ := Nat.mod_lt _ wp
    omega
  obtain ⟨y1, y2, y3⟩ := k.cell
  have sb : c - sm (qt ρ c) (ρ 2) ≤ c := Nat.sub_le _ _
  have loop : ∀ (g j : Nat), j + g = ρ 2 → g_G K mX9_shareByRanks 5 0 0 (gI fun r h' n' => r = nI (shr ρ c a) ∧ h' = h ∧ n' = n) gN 4 [some (.ref s), some (.int (nI a)), some (.int (nI (ahd ρ c a j))), some (.int (nI j))] [] h n := by
    intro g
    induction g with
    | zero =>
      intro j hj
      have : j = ρ 2 := by omega
      subst this
      have ab := ahd_b (ρ := ρ) (c := c) (k := a) (j := ρ 2)
      refine r_iload3 dX9_shareByRanks_4 ?_
      refine r_aload0 dX9_shareByRanks_5 ?_
      refine f_X9_7_X9 dX9_shareByRanks_6 ho ?_
      refine r_callF (M' := mJ4_size) _ dX9_shareByRanks_9 q1949 q413 q412 rfl q415 q417 q418 q416 q414 rfl (lw_all_tbl q419) q131 (by exact (⟨by decide, by decide, by decide +kernel⟩ : g_pl ⟨"java/util/List", "size", "()I"⟩ 0)) gc_J4 y3 ((k_sizeL k)) (by omega) (Nat.le_of_ble_eq_true rfl) (by omega) (by omega) rfl (Nat.le_of_ble_eq_true rfl) rfl (kI fun r9 h9 n9 e9 => ?_) kN
      obtain ⟨q9, q8, q7⟩ := e9; have q9 := q9.symm; have q8 := q8.symm; have q7 := q7.symm; subst q9; subst q8; subst q7
      refine r_icmp_geN (tgt := 62) dX9_shareByRanks_14 (by decide) (by omega) (by omega) (fun c14 => ?_) (fun c14 => absurd c14 (by omega))
      refine r_aload0 dX9_shareByRanks_62 ?_
      refine r_iload1 dX9_shareByRanks_63 ?_
      refine r_callV (M' := mX9_lowered) _ dX9_shareByRanks_64 q1950 q1952 qs21 rfl (lw_all_tbl q1953) q178 (by exact pl_X9_lowered) gc_X9 ho ((k_lowered k w hc ho ha)) (by omega) (Nat.le_of_ble_eq_true rfl) (by omega) (by omega) rfl (Nat.le_of_ble_eq_true rfl) rfl (kI fun r64 h64 n64 e64 => ?_) kN
      obtain ⟨q9, q8, q7⟩ := e64; have q9 := q9.symm; have q8 := q8.symm; have q7 := q7.symm; subst q9; subst q8; subst q7
      refine r_iload2 dX9_shareByRanks_67 ?_
      refine r_aload0 dX9_shareByRanks_68 ?_
      refine r_callV (M' := mX9_left) _ dX9_shareByRanks_69 q2061 q2063 qs29 rfl (lw_all_tbl q2064) q178 (by exact pl_X9_left) gc_X9 ho ((k_left k w hc ho)) (by omega) (Nat.le_of_ble_eq_true rfl) (by omega) (by omega) rfl (Nat.le_of_ble_eq_true rfl) rfl (kI fun r69 h69 n69 e69 => ?_) kN
      obtain ⟨q9, q8, q7⟩ := e69; have q9 := q9.symm; have q8 := q8.symm; have q7 := q7.symm; subst q9; subst q8; subst q7
      refine r_icmp_geN (tgt := 79) dX9_shareByRanks_72 (by decide) (by omega) (by omega) (fun c72 => ?_) (fun c72 => ?_)
      · refine r_iconst (v := nI 0) dX9_shareByRanks_79 (by decide) ?_
        refine r_iadd dX9_shareByRanks_80 (by first | exact nI_add _ _ | rfl) ?_
        exact r_ireturn dX9_shareByRanks_81 rfl rfl (⟨by unfold shr; rw [if_neg (by omega)], rfl, rfl⟩)
      · refine r_iconst (v := nI 1) dX9_shareByRanks_75 (by decide) ?_
        refine r_goto (tgt := 80) dX9_shareByRanks_76 (by decide) ?_
        refine r_iadd dX9_shareByRanks_80 (by first | exact nI_add _ _ | rfl) ?_
        exact r_ireturn dX9_shareByRanks_81 rfl rfl (⟨by unfold shr; rw [if_pos (by omega)], rfl, rfl⟩)
    | succ g ih =>
      intro j hj
      have r1 := rb j
      have r2 := rb a
      refine r_iload3 dX9_shareByRanks_4 ?_
      refine r_aload0 dX9_shareByRanks_5 ?_
      refine f_X9_7_X9 dX9_shareByRanks_6 ho ?_
      refine r_callF (M' := mJ4_size) _ dX9_shareByRanks_9 q1949 q413 q412 rfl q415 q417 q418 q416 q414 rfl (lw_all_tbl q419) q131 (by exact (⟨by decide, by decide, by decide +kernel⟩ : g_pl ⟨"java/util/List", "size", "()I"⟩ 0)) gc_J4 y3 ((k_sizeL k)) (by omega) (Nat.le_of_ble_eq_true rfl) (by omega) (by omega) rfl (Nat.le_of_ble_eq_true rfl) rfl (kI fun r9 h9 n9 e9 => ?_) kN
      obtain ⟨q9, q8, q7⟩ := e9; have q9 := q9.symm; have q8 := q8.symm; have q7 := q7.symm; subst q9; subst q8; subst q7
      refine r_icmp_geN (tgt := 62) dX9_shareByRanks_14 (by decide) (by omega) (by omega) (fun c14 => absurd c14 (by omega)) (fun c14 => ?_)
      refine r_iload2 dX9_shareByRanks_17 ?_
      refine r_aload0 dX9_shareByRanks_18 ?_
      refine r_iload3 dX9_shareByRanks_19 ?_
      refine r_callV (M' := mX9_rest) _ dX9_shareByRanks_20 q1958 q1960 qs22 rfl (lw_all_tbl q1961) q178 (by exact pl_X9_rest) gc_X9 ho ((k_rest9 k w hc ho (by omega))) (by omega) (Nat.le_of_ble_eq_true rfl) (by omega) (by omega) rfl (Nat.le_of_ble_eq_true rfl) rfl (kI fun r20 h20 n20 e20 => ?_) kN
      obtain ⟨q9, q8, q7⟩ := e20; have q9 := q9.symm; have q8 := q8.symm; have q7 := q7.symm; subst q9; subst q8; subst q7
      refine r_aload0 dX9_shareByRanks_23 ?_
      refine r_iload1 dX9_shareByRanks_24 ?_
      refine r_callV (M' := mX9_rest) _ dX9_shareByRanks_25 q1958 q1960 qs22 rfl (lw_all_tbl q1961) q178 (by exact pl_X9_rest) gc_X9 ho ((k_rest9 k w hc ho ha)) (by omega) (Nat.le_of_ble_eq_true rfl) (by omega) (by omega) rfl (Nat.le_of_ble_eq_true rfl) rfl (kI fun r25 h25 n25 e25 => ?_) kN
      obtain ⟨q9, q8, q7⟩ := e25; have q9 := q9.symm; have q8 := q8.symm; have q7 := q7.symm; subst q9; subst q8; subst q7
      refine r_icmp_gtN (tgt := 49) dX9_shareByRanks_28 (by decide) (by omega) (by omega) (fun c28 => ?_) (fun c28 => ?_)
      · refine r_iconst (v := nI 1) dX9_shareByRanks_49 (by decide) ?_
        refine r_goto (tgt := 54) dX9_shareByRanks_50 (by decide) ?_
        refine r_iadd dX9_shareByRanks_54 (show _ = nI (ahd ρ c a (j + 1)) by rw [ahd_y (Or.inl c28), nI_add]) ?_
        refine r_istore2 dX9_shareByRanks_55 ?_
        refine r_iinc3 dX9_shareByRanks_56 (ii1 _) ?_
        refine r_goto (tgt := 4) dX9_shareByRanks_59 (by decide) ?_
        exact ih (j + 1) (by omega)
      · refine r_aload0 dX9_shareByRanks_31 ?_
        refine r_iload3 dX9_shareByRanks_32 ?_
        refine r_callV (M' := mX9_rest) _ dX9_shareByRanks_33 q1958 q1960 qs22 rfl (lw_all_tbl q1961) q178 (by exact pl_X9_rest) gc_X9 ho ((k_rest9 k w hc ho (by omega))) (by omega) (Nat.le_of_ble_eq_true rfl) (by omega) (by omega) rfl (Nat.le_of_ble_eq_true rfl) rfl (kI fun r33 h33 n33 e33 => ?_) kN
        obtain ⟨q9, q8, q7⟩ := e33; have q9 := q9.symm; have q8 := q8.symm; have q7 := q7.symm; subst q9; subst q8; subst q7
        refine r_aload0 dX9_shareByRanks_36 ?_
        refine r_iload1 dX9_shareByRanks_37 ?_
        refine r_callV (M' := mX9_rest) _ dX9_shareByRanks_38 q1958 q1960 qs22 rfl (lw_all_tbl q1961) q178 (by exact pl_X9_rest) gc_X9 ho ((k_rest9 k w hc ho ha)) (by omega) (Nat.le_of_ble_eq_true rfl) (by omega) (by omega) rfl (Nat.le_of_ble_eq_true rfl) rfl (kI fun r38 h38 n38 e38 => ?_) kN
        obtain ⟨q9, q8, q7⟩ := e38; have q9 := q9.symm; have q8 := q8.symm; have q7 := q7.symm; subst q9; subst q8; subst q7
        refine r_icmp_neN (tgt := 53) dX9_shareByRanks_41 (by decide) (by omega) (by omega) (fun c41 => ?_) (fun c41 => ?_)
        · refine r_iconst (v := nI 0) dX9_shareByRanks_53 (by decide) ?_
          refine r_iadd dX9_shareByRanks_54 (show _ = nI (ahd ρ c a (j + 1)) by rw [ahd_n (by omega), nI_add]) ?_
          refine r_istore2 dX9_shareByRanks_55 ?_
          refine r_iinc3 dX9_shareByRanks_56 (ii1 _) ?_
          refine r_goto (tgt := 4) dX9_shareByRanks_59 (by decide) ?_
          exact ih (j + 1) (by omega)
        · refine r_iload3 dX9_shareByRanks_44 ?_
          refine r_iload1 dX9_shareByRanks_45 ?_
          refine r_icmp_geN (tgt := 53) dX9_shareByRanks_46 (by decide) (by omega) (by omega) (fun c46 => ?_) (fun c46 => ?_)
          · refine r_iconst (v := nI 0) dX9_shareByRanks_53 (by decide) ?_
            refine r_iadd dX9_shareByRanks_54 (show _ = nI (ahd ρ c a (j + 1)) by rw [ahd_n (by omega), nI_add]) ?_
            refine r_istore2 dX9_shareByRanks_55 ?_
            refine r_iinc3 dX9_shareByRanks_56 (ii1 _) ?_
            refine r_goto (tgt := 4) dX9_shareByRanks_59 (by decide) ?_
            exact ih (j + 1) (by omega)
          · refine r_iconst (v := nI 1) dX9_shareByRanks_49 (by decide) ?_
            refine r_goto (tgt := 54) dX9_shareByRanks_50 (by decide) ?_
            refine r_iadd dX9_shareByRanks_54 (show _ = nI (ahd ρ c a (j + 1)) by rw [ahd_y (Or.inr ⟨by omega, by omega⟩), nI_add]) ?_
            refine r_istore2 dX9_shareByRanks_55 ?_
            refine r_iinc3 dX9_shareByRanks_56 (ii1 _) ?_
            refine r_goto (tgt := 4) dX9_shareByRanks_59 (by decide) ?_
            exact ih (j + 1) (by omega)
  refine g_Met.of (M := mX9_shareByRanks) (L := [some (.ref s), some (.int (nI a)), none, none]) (by decide +kernel) (Nat.le_of_ble_eq_true rfl) rfl ?_
  refine r_iconst (v := nI 0) dX9_shareByRanks_0 (by decide) ?_
  refine r_istore2 dX9_shareByRanks_1 ?_
  refine r_iconst (v := nI 0) dX9_shareByRanks_2 (by decide) ?_
  refine r_istore3 dX9_shareByRanks_3 ?_
  exact loop (ρ 2) 0 (by omega)
theorem k_sharing2 (k : bk K W lo n b ρ α h) (w : wB u ρ) {i : Nat} (ij : i < ρ 1) : g_Met K mX2_sharing 4 2 7 [.ref b, .int (nI i)] h n (gA fun r h' n' => r = .ref n ∧ (∃ t lb ll, h b = some (bkO b t lb ll ρ α) ∧ h' n = some (shO ll (ρ (23 + 2 * i)) ρ)) ∧ (∀ q : Nat, q < n → h' q = h q) ∧ n' = n + 2) gN := by
  refine g_Met.facts fun f1 f2 f3 => ?_
  obtain ⟨k1, k2, k3, t, lb, eb, ll, el, k4, k5, k6, k7, k8, k9⟩ := k
  obtain ⟨y1, y2, y3⟩ := k6.cell
  have k71 := k7.keep (h' := g_up h n (g_ob 7 [.null, .int (nI 0), .int (nI 0)])) (fun q hq => by rw [g_un (by omega)])
  have k61 := k6.keep (h' := g_up h n (g_ob 7 [.null, .int (nI 0), .int (nI 0)])) (fun q hq => by rw [g_un (by omega)])
  have l9 := k3.2
  obtain ⟨y11, y12, y13⟩ := k61.cell
  obtain ⟨x, z1, z2, z3⟩ := k_getB (n := n + 1) k61 ij
  refine g_Met.of (M := mX2_sharing) (L := [some (.ref b), some (.int (nI i))]) (by decide +kernel) (Nat.le_of_ble_eq_true rfl) rfl ?_
  refine n_X2_207 dX2_sharing_0 (by omega) (by omega) ?_
  refine r_dup dX2_sharing_3 ?_
  refine r_aload0 dX2_sharing_4 ?_
  refine f_X2_25_X2 dX2_sharing_5 (by rw [g_un (by omega)]; exact k4) ?_
  refine r_aload0 dX2_sharing_8 ?_
  refine f_X2_21_X2 dX2_sharing_9 (by rw [g_un (by omega)]; exact k4) ?_
  refine r_iload1 dX2_sharing_12 ?_
  refine r_callF (M' := mJ4_get) _ dX2_sharing_13 q1907 q468 q467 rfl q469 q471 q472 q470 q414 rfl (lw_all_tbl q473) q131 (by exact (⟨by decide, by decide, by decide +kernel⟩ : g_pl ⟨"java/util/List", "get", "(I)Ljava/lang/Object;"⟩ 1)) gc_J4 y13 (z3) (by omega) (Nat.le_of_ble_eq_true rfl) (by omega) (by omega) rfl (Nat.le_of_ble_eq_true rfl) rfl (kA fun r13 h13 n13 t13 e13 => ?_) kN
  obtain ⟨q9, q8, q7⟩ := e13; have q9 := q9.symm; have q8 := q8.symm; have q7 := q7.symm; subst q9; subst q8; subst q7
  refine r_checkcast dX2_sharing_18 gc_X7 q1647 (Or.inl rfl) z1 ?_
  refine f_X2_88_X7 dX2_sharing_21 z1 ?_
  refine r_callI (M' := mX9_init) _ dX2_sharing_24 q1908 q1909 rfl rfl rfl (lw_all_tbl q1910) q178 (by exact pl_X9_init)  ((k_X9_init k71 (by omega) w f1 (by omega) g_us)) (by omega) (Nat.le_of_ble_eq_true rfl) (by omega) (by omega) rfl (Nat.le_of_ble_eq_true rfl) rfl (kV fun h24 n24 e24 => ?_) kN
  obtain ⟨z5, z6, rfl⟩ := e24
  exact r_areturn dX2_sharing_27 rfl (Or.inl ⟨_, rfl⟩) (Or.inr ⟨_, rfl⟩) (⟨rfl, ⟨t, lb, ll, k4, z5⟩, fun q hq => by rw [z6 q (by omega) (by omega), g_un (by omega)], rfl⟩)
end
