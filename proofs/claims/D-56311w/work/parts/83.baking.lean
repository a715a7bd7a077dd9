/-! baking times: all sets; branch and bound -/
set_option maxRecDepth 100000
abbrev baO (ll : Nat) (ρ : Nat → Nat) : g_C := g_ob 10 [.ref ll, .int (nI (ρ 5))]
theorem miS_s {ρ : Nat → Nat} {s j : Nat} : miS ρ s (j + 1) = miS ρ s j + if s.testBit j = true then ρ (33 + 3 * j) else 0 := rfl
theorem g_self {h : g_P} {e : Nat} {c : g_C} (he : h e = some c) : g_up h e c = h := by
  funext q
  by_cases z : q = e
  · rw [z, g_us, he]
  · rw [g_un z]
section
variable {K : g_K} {W : c_W} {lo hi b n u ll el s : Nat} {ρ : Nat → Nat} {α : Nat → Int64} {h : g_P}
theorem k_X12_init {x : Int32} {v0 v1 : Value} (hb : k_b K ≤ s) (ho : h s = some (g_ob 10 [v0, v1])) : g_Met K mX12_init 1 0 0 [.ref s, .ref ll, .int x] h n (gV fun h' n' => h' = g_up h s (g_ob 10 [.ref ll, .int x]) ∧ n' = n) gN := by
  refine g_Met.of (M := mX12_init) (L := [some (.ref s), some (.ref ll), some (.int x)]) (by decide +kernel) (Nat.le_of_ble_eq_true rfl) rfl ?_
  refine r_aload0 dX12_init_0 ?_
  refine r_objInit dX12_init_1 q447 q200 q201 rfl (by omega) (Nat.le_of_ble_eq_true rfl) ?_
  refine r_aload0 dX12_init_4 ?_
  refine r_aload1 dX12_init_5 ?_
  refine p_X12_9_X12 dX12_init_6 (by omega) ho ?_
  refine r_aload0 dX12_init_9 ?_
  refine r_iload2 dX12_init_10 ?_
  refine p_X12_15_X12 dX12_init_11 (by omega) g_us ?_
  exact r_return dX12_init_14 rfl (⟨by rw [g_up_up], rfl⟩)
theorem k_baking2 (k : bk K W lo n b ρ α h) : g_Met K mX2_baking 2 1 2 [.ref b] h n (gA fun r h' n' => r = .ref n ∧ (∃ t lb ll, h b = some (bkO b t lb ll ρ α) ∧ h' = g_up h n (baO ll ρ)) ∧ n' = n + 1) gN := by
  refine g_Met.facts fun f1 f2 f3 => ?_
  obtain ⟨k1, k2, k3, t, lb, eb, ll, el, k4, k5, k6, k7, k8⟩ := k
  have l9 := k3.2
  refine g_Met.of (M := mX2_baking) (L := [some (.ref b)]) (by decide +kernel) (Nat.le_of_ble_eq_true rfl) rfl ?_
  refine n_X2_224 dX2_baking_0 (by omega) (by omega) ?_
  refine r_dup dX2_baking_3 ?_
  refine r_aload0 dX2_baking_4 ?_
  refine f_X2_25_X2 dX2_baking_5 (by rw [g_un (by omega)]; exact k4) ?_
  refine r_aload0 dX2_baking_8 ?_
  refine f_X2_36_X2 dX2_baking_9 (by rw [g_un (by omega)]; exact k4) ?_
  refine r_callI (M' := mX12_init) _ dX2_baking_12 q444 q445 rfl rfl rfl (lw_all_tbl q446) q182 (by exact pl_X12_init)  ((k_X12_init f1 g_us)) (by omega) (Nat.le_of_ble_eq_true rfl) (by omega) (by omega) rfl (Nat.le_of_ble_eq_true rfl) rfl (kV fun h12 n12 e12 => ?_) kN
  obtain ⟨q8, q7⟩ := e12; have q8 := q8.symm; have q7 := q7.symm; subst q8; subst q7
  exact r_areturn dX2_baking_15 rfl (Or.inl ⟨_, rfl⟩) (Or.inr ⟨_, rfl⟩) (⟨rfl, ⟨t, lb, ll, k4, by rw [g_up_up]⟩, rfl⟩)
theorem k_minutes12 (k : bkL_ K W lo hi ll el ρ h) (w : wB u ρ) (ho : h s = some (baO ll ρ)) {q : Nat} (hq : q < 256) : g_Met K mX12_minutes 3 0 0 [.ref s, .int (nI q)] h n (gI fun r h' n' => r = nI (miS ρ q (ρ 2)) ∧ h' = h ∧ n' = n) gN := by
  have wb := w.b
  obtain ⟨y1, y2, y3⟩ := k.cell
  have mb : ∀ j, j ≤ ρ 2 → miS ρ q j ≤ 480 := fun j hj => by
    have := miS_b (ρ := ρ) (s := q) (n := j) fun k hk => (w.l (by omega)).2.2.2.1
    omega
  have loop : ∀ (g j : Nat), j + g = ρ 2 → g_G K mX12_minutes 3 0 0 (gI fun r h' n' => r = nI (miS ρ q (ρ 2)) ∧ h' = h ∧ n' = n) gN 4 [some (.ref s), some (.int (nI q)), some (.int (nI (miS ρ q j))), some (.int (nI j))] [] h n := by
    intro g
    induction g with
    | zero =>
      intro j hj
      have : j = ρ 2 := by omega
      subst this
      refine r_iload3 dX12_minutes_4 ?_
      refine r_aload0 dX12_minutes_5 ?_
      refine f_X12_9_X12 dX12_minutes_6 ho ?_
      refine r_callF (M' := mJ4_size) _ dX12_minutes_9 q460 q413 q412 rfl q415 q417 q418 q416 q414 rfl (lw_all_tbl q419) q131 (by exact (⟨by decide, by decide, by decide +kernel⟩ : g_pl ⟨"java/util/List", "size", "()I"⟩ 0)) gc_J4 y3 ((k_sizeL k)) (by omega) (Nat.le_of_ble_eq_true rfl) (by omega) (by omega) rfl (Nat.le_of_ble_eq_true rfl) rfl (kI fun r9 h9 n9 e9 => ?_) kN
      obtain ⟨q9, q8, q7⟩ := e9; have q9 := q9.symm; have q8 := q8.symm; have q7 := q7.symm; subst q9; subst q8; subst q7
      refine r_icmp_geN (tgt := 55) dX12_minutes_14 (by decide) (by omega) (by omega) (fun c14 => ?_) (fun c14 => absurd c14 (by omega))
      refine r_iload2 dX12_minutes_55 ?_
      exact r_ireturn dX12_minutes_56 rfl rfl (⟨rfl, rfl, rfl⟩)
    | succ g ih =>
      intro j hj
      obtain ⟨x, z1, z2, z3⟩ := k_getL (n := n) k (i := j) (by omega)
      have bb := Bool.toNat_le (q.testBit j)
      refine r_iload3 dX12_minutes_4 ?_
      refine r_aload0 dX12_minutes_5 ?_
      refine f_X12_9_X12 dX12_minutes_6 ho ?_
      refine r_callF (M' := mJ4_size) _ dX12_minutes_9 q460 q413 q412 rfl q415 q417 q418 q416 q414 rfl (lw_all_tbl q419) q131 (by exact (⟨by decide, by decide, by decide +kernel⟩ : g_pl ⟨"java/util/List", "size", "()I"⟩ 0)) gc_J4 y3 ((k_sizeL k)) (by omega) (Nat.le_of_ble_eq_true rfl) (by omega) (by omega) rfl (Nat.le_of_ble_eq_true rfl) rfl (kI fun r9 h9 n9 e9 => ?_) kN
      obtain ⟨q9, q8, q7⟩ := e9; have q9 := q9.symm; have q8 := q8.symm; have q7 := q7.symm; subst q9; subst q8; subst q7
      refine r_icmp_geN (tgt := 55) dX12_minutes_14 (by decide) (by omega) (by omega) (fun c14 => absurd c14 (by omega)) (fun c14 => ?_)
      refine r_iload2 dX12_minutes_17 ?_
      refine r_iload1 dX12_minutes_18 ?_
      refine r_iload3 dX12_minutes_19 ?_
      refine r_ishr dX12_minutes_20 rfl ?_
      refine r_iconst (v := nI 1) dX12_minutes_21 (by decide) ?_
      refine r_iand dX12_minutes_22 (show _ = _ from bt_and1 q hq j (by omega)) ?_
      refine r_iconst (v := nI 1) dX12_minutes_23 (by decide) ?_
      refine r_icmp_neN (tgt := 46) dX12_minutes_24 (by decide) (by omega) (by omega) (fun c24 => ?_) (fun c24 => ?_)
      · refine r_iconst (v := nI 0) dX12_minutes_46 (by decide) ?_
        refine r_iadd dX12_minutes_47 (show _ = nI (miS ρ q (j + 1)) by rw [nI_add, miS_s, if_neg (fun z => by rw [z] at c24; exact c24 rfl)]) ?_
        refine r_istore2 dX12_minutes_48 ?_
        refine r_iinc3 dX12_minutes_49 (ii1 _) ?_
        refine r_goto (tgt := 4) dX12_minutes_52 (by decide) ?_
        exact ih (j + 1) (by omega)
      · refine r_aload0 dX12_minutes_27 ?_
        refine f_X12_9_X12 dX12_minutes_28 ho ?_
        refine r_iload3 dX12_minutes_31 ?_
        refine r_callF (M' := mJ4_get) _ dX12_minutes_32 q466 q468 q467 rfl q469 q471 q472 q470 q414 rfl (lw_all_tbl q473) q131 (by exact (⟨by decide, by decide, by decide +kernel⟩ : g_pl ⟨"java/util/List", "get", "(I)Ljava/lang/Object;"⟩ 1)) gc_J4 y3 (z3) (by omega) (Nat.le_of_ble_eq_true rfl) (by omega) (by omega) rfl (Nat.le_of_ble_eq_true rfl) rfl (kA fun r32 h32 n32 t32 e32 => ?_) kN
        obtain ⟨q9, q8, q7⟩ := e32; have q9 := q9.symm; have q8 := q8.symm; have q7 := q7.symm; subst q9; subst q8; subst q7
        refine r_checkcast dX12_minutes_37 gc_X8 q812 (Or.inl rfl) z1 ?_
        refine f_X12_31_X8 dX12_minutes_40 z1 ?_
        refine r_goto (tgt := 47) dX12_minutes_43 (by decide) ?_
        refine r_iadd dX12_minutes_47 (show _ = nI (miS ρ q (j + 1)) by rw [nI_add, miS_s, if_pos (by cases z : q.testBit j with | true => rfl | false => rw [z] at c24; exact absurd c24 (by decide))]) ?_
        refine r_istore2 dX12_minutes_48 ?_
        refine r_iinc3 dX12_minutes_49 (ii1 _) ?_
        refine r_goto (tgt := 4) dX12_minutes_52 (by decide) ?_
        exact ih (j + 1) (by omega)
  refine g_Met.of (M := mX12_minutes) (L := [some (.ref s), some (.int (nI q)), none, none]) (by decide +kernel) (Nat.le_of_ble_eq_true rfl) rfl ?_
  refine r_iconst (v := nI 0) dX12_minutes_0 (by decide) ?_
  refine r_istore2 dX12_minutes_1 ?_
  refine r_iconst (v := nI 0) dX12_minutes_2 (by decide) ?_
  refine r_istore3 dX12_minutes_3 ?_
  exact loop (ρ 2) 0 (by omega)
theorem k_withOneMore {e m : Nat} {V : Nat → Nat} (k : bkL_ K W lo hi ll el ρ h) (hh : hi ≤ n) (w : wB u ρ) (ho : h s = some (baO ll ρ)) (hm1 : 1 ≤ m) (hm : m < 3) (he : h e = some (g_ar 0 (aI (2 ^ ρ 2) (fun i => nI (V i))))) (hV : ∀ q, q < 2 ^ ρ 2 → isS ρ (ρ 2) m q (V q)) : g_Met K mX12_withOneMore 4 1 256 [.ref s, .ref e] h n (gA fun r h' n' => r = .ref n ∧ (∃ V' : Nat → Nat, h' n = some (g_ar 0 (aI (2 ^ ρ 2) (fun i => nI (V' i)))) ∧ ∀ q, q < 2 ^ ρ 2 → isS ρ (ρ 2) (m + 1) q (V' q)) ∧ (∀ q : Nat, q < n → h' q = h q) ∧ n' = n + 1) gN := by
  refine g_Met.facts fun f1 f2 f3 => ?_
  have wb := w.b
  have sn := f2 _ _ ho
  have en := f2 _ _ he
  have p2 : 2 ^ ρ 2 ≤ 2 ^ 8 := Nat.pow_le_pow_right (by omega) (by omega)
  have p1 : 0 < 2 ^ ρ 2 := Nat.two_pow_pos _
  have lb : ∀ k, k < ρ 2 → ρ (33 + 3 * k) ≤ 60 := fun k hk => (w.l hk).2.2.2.1
  have mb : ∀ q, miS ρ q (ρ 2) ≤ 480 := fun q => by
    have := miS_b (ρ := ρ) (s := q) (n := ρ 2) lb
    omega
  have vb : ∀ q, q < 2 ^ ρ 2 → V q ≤ 480 := fun q hq => by
    have := isS_b lb (hV q hq)
    omega
  have inner : ∀ (g p t v : Nat) (U : Nat → Nat) (h1 : g_P), p < g → t < 2 ^ ρ 2 → 1 ≤ t → inS p t → dnS ρ V (ρ 2) t p v → U t = v → v ≤ 480 → h1 n = some (g_ar 0 (aI (2 ^ ρ 2) (fun i => nI (U i)))) → (∀ q : Nat, q < n → h1 q = h q) → (∀ (U' : Nat → Nat) (h2 : g_P) (o4 : Option Value), (∀ i, i ≠ t → U' i = U i) → isS ρ (ρ 2) (m + 1) t (U' t) → h2 n = some (g_ar 0 (aI (2 ^ ρ 2) (fun i => nI (U' i)))) → (∀ q : Nat, q < n → h2 q = h q) → g_G K mX12_withOneMore 4 0 0 (gA fun r h' n' => r = .ref n ∧ (∃ V' : Nat → Nat, h' n = some (g_ar 0 (aI (2 ^ ρ 2) (fun i => nI (V' i)))) ∧ ∀ q, q < 2 ^ ρ 2 → isS ρ (ρ 2) (m + 1) q (V' q)) ∧ (∀ q : Nat, q < n → h' q = h q) ∧ n' = n + 1) gN 64 [some (.ref s), some (.ref e), some (.ref n), some (.int (nI t)), o4] [] h2 (n + 1)) → g_G K mX12_withOneMore 4 0 0 (gA fun r h' n' => r = .ref n ∧ (∃ V' : Nat → Nat, h' n = some (g_ar 0 (aI (2 ^ ρ 2) (fun i => nI (V' i)))) ∧ ∀ q, q < 2 ^ ρ 2 → isS ρ (ρ 2) (m + 1) q (V' q)) ∧ (∀ q : Nat, q < n → h' q = h q) ∧ n' = n + 1) gN 22 [some (.ref s), some (.ref e), some (.ref n), some (.int (nI t)), some (.int (nI p))] [] h1 (n + 1) := by
    intro g
    induction g with
    | zero => intro p t v U h1 hg; omega
    | succ g ih =>
      intro p t v U h1 hg ht t1 hp dn hU hv hn fr kk
      have he1 := (fr e en).trans he
      have ho1 := (fr s sn).trans ho
      have k1 := k.keep fun q hq => fr q (by omega)
      have xl := xor_le ht hp
      have pl := inS_le hp
      have mp := mb p
      have vx := vb _ xl
      refine r_iload4 dX12_withOneMore_22 ?_
      refine r_if_leN (tgt := 64) dX12_withOneMore_24 (by decide) (by omega) (fun c24 => ?_) (fun c24 => ?_)
      · have p0 : p = 0 := by omega
        subst p0
        exact kk U h1 _ (fun i hi => rfl) (by rw [hU]; exact dnS_e hm1 hm dn fun q hq => hV _ (xor_le ht hq)) hn fr
      · refine r_aload2 dX12_withOneMore_27 ?_
        refine r_iload3 dX12_withOneMore_28 ?_
        refine r_aload2 dX12_withOneMore_29 ?_
        refine r_iload3 dX12_withOneMore_30 ?_
        refine r_iaload (t) dX12_withOneMore_31 hn rfl (by omega) (aI_at ht) ?_
        refine r_aload0 dX12_withOneMore_32 ?_
        refine r_iload4 dX12_withOneMore_33 ?_
        refine r_callV (M' := mX12_minutes) _ dX12_withOneMore_35 q461 q463 qs0 rfl (lw_all_tbl q464) q182 (by exact pl_X12_minutes) gc_X12 ho1 ((k_minutes12 k1 w ho1 (by omega))) (by omega) (Nat.le_of_ble_eq_true rfl) (by omega) (by omega) rfl (Nat.le_of_ble_eq_true rfl) rfl (kI fun r35 h35 n35 e35 => ?_) kN
        obtain ⟨q9, q8, q7⟩ := e35; have q9 := q9.symm; have q8 := q8.symm; have q7 := q7.symm; subst q9; subst q8; subst q7
        refine r_aload1 dX12_withOneMore_38 ?_
        refine r_iload3 dX12_withOneMore_39 ?_
        refine r_iload4 dX12_withOneMore_40 ?_
        refine r_iconst (v := -1) dX12_withOneMore_42 (by decide) ?_
        refine r_ixor dX12_withOneMore_43 rfl ?_
        refine r_iand dX12_withOneMore_44 (bt_not hp) ?_
        refine r_iaload ((t ^^^ p)) dX12_withOneMore_45 he1 rfl (by omega) (aI_at xl) ?_
        refine r_callS (M' := mJ16_max) _ dX12_withOneMore_46 q817 q576 rfl (lw_all_tbl q577) q148 (by exact pl_J16_max)  ((k_max (by omega) (by omega))) (by omega) (Nat.le_of_ble_eq_true rfl) (by omega) (by omega) rfl (Nat.le_of_ble_eq_true rfl) rfl (kI fun r46 h46 n46 e46 => ?_) kN
        obtain ⟨q9, q8, q7⟩ := e46; have q9 := q9.symm; have q8 := q8.symm; have q7 := q7.symm; subst q9; subst q8; subst q7
        refine r_callS (M' := mJ16_min) _ dX12_withOneMore_49 q818 q594 rfl (lw_all_tbl q595) q148 (by exact pl_J16_min)  ((k_min (by omega) (by omega))) (by omega) (Nat.le_of_ble_eq_true rfl) (by omega) (by omega) rfl (Nat.le_of_ble_eq_true rfl) rfl (kI fun r49 h49 n49 e49 => ?_) kN
        obtain ⟨q9, q8, q7⟩ := e49; have q9 := q9.symm; have q8 := q8.symm; have q7 := q7.symm; subst q9; subst q8; subst q7
        refine r_iastore (t) dX12_withOneMore_52 (by omega) hn rfl (by omega) (by rw [aI_len]; exact ht) ?_
        refine r_iload4 dX12_withOneMore_53 ?_
        refine r_iconst (v := nI 1) dX12_withOneMore_55 (by decide) ?_
        refine r_isub dX12_withOneMore_56 (pk_sub (by omega)) ?_
        refine r_iload3 dX12_withOneMore_57 ?_
        refine r_iand dX12_withOneMore_58 (nx9_and _ _) ?_
        refine r_istore4 dX12_withOneMore_59 ?_
        refine r_goto (tgt := 22) dX12_withOneMore_61 (by decide) ?_
        refine ih ((p - 1) &&& t) t _ (fup U t (min v (max (miS ρ p (ρ 2)) (V (t ^^^ p))))) _ (by have := @Nat.and_le_left (p - 1) t; omega) ht t1 inS_and (dnS_s dn hp) fup_s (by omega) ?_ (fun q hq => by rw [g_un (by omega)]; exact fr q hq) (fun U' h2 o4 q1 q2 q3 q4 => kk U' h2 o4 (fun i hi => by rw [q1 i hi, fup_n hi]) q2 q3 q4)
        rw [g_us, aI_set, hU]
        refine congrArg (fun l => some (g_ar 0 l)) (aI_ext fun i hi2 => ?_)
        by_cases e : i = t
        · rw [e, fup_s, fup_s]
        · rw [fup_n e, fup_n e]
  have outer : ∀ (g t : Nat) (U : Nat → Nat) (h1 : g_P) (o4 : Option Value), t + g = 2 ^ ρ 2 → 1 ≤ t → (∀ q, q < t → isS ρ (ρ 2) (m + 1) q (U q)) → h1 n = some (g_ar 0 (aI (2 ^ ρ 2) (fun i => nI (U i)))) → (∀ q : Nat, q < n → h1 q = h q) → g_G K mX12_withOneMore 4 0 0 (gA fun r h' n' => r = .ref n ∧ (∃ V' : Nat → Nat, h' n = some (g_ar 0 (aI (2 ^ ρ 2) (fun i => nI (V' i)))) ∧ ∀ q, q < 2 ^ ρ 2 → isS ρ (ρ 2) (m + 1) q (V' q)) ∧ (∀ q : Nat, q < n → h' q = h q) ∧ n' = n + 1) gN 7 [some (.ref s), some (.ref e), some (.ref n), some (.int (nI t)), o4] [] h1 (n + 1) := by
    intro g
    induction g with
    | zero =>
      intro t U h1 o4 ht t1 hU hn fr
      have : t = 2 ^ ρ 2 := by omega
      have he1 := (fr e en).trans he
      refine r_iload3 dX12_withOneMore_7 ?_
      refine r_aload1 dX12_withOneMore_8 ?_
      refine r_arraylength dX12_withOneMore_9 ga_I he1 (by rw [aI_len]) ?_
      refine r_icmp_geN (tgt := 70) dX12_withOneMore_10 (by decide) (by omega) (by omega) (fun c10 => ?_) (fun c10 => absurd c10 (by omega))
      refine r_aload2 dX12_withOneMore_70 ?_
      exact r_areturn dX12_withOneMore_71 rfl (Or.inr ⟨_, rfl⟩) (Or.inr ⟨_, rfl⟩) (⟨rfl, ⟨U, hn, fun q hq => hU q (by omega)⟩, fr, rfl⟩)
    | succ g ih =>
      intro t U h1 o4 ht t1 hU hn fr
      have he1 := (fr e en).trans he
      have tl : t < 2 ^ ρ 2 := by omega
      have nxt : ∀ (U' : Nat → Nat) (h2 : g_P) (o4' : Option Value), (∀ q, q < t + 1 → isS ρ (ρ 2) (m + 1) q (U' q)) → h2 n = some (g_ar 0 (aI (2 ^ ρ 2) (fun i => nI (U' i)))) → (∀ q : Nat, q < n → h2 q = h q) → g_G K mX12_withOneMore 4 0 0 (gA fun r h' n' => r = .ref n ∧ (∃ V' : Nat → Nat, h' n = some (g_ar 0 (aI (2 ^ ρ 2) (fun i => nI (V' i)))) ∧ ∀ q, q < 2 ^ ρ 2 → isS ρ (ρ 2) (m + 1) q (V' q)) ∧ (∀ q : Nat, q < n → h' q = h q) ∧ n' = n + 1) gN 64 [some (.ref s), some (.ref e), some (.ref n), some (.int (nI t)), o4'] [] h2 (n + 1) := by
        intro U' h2 o4' q1 q2 q3
        refine r_iinc3 dX12_withOneMore_64 (ii1 _) ?_
        refine r_goto (tgt := 7) dX12_withOneMore_67 (by decide) ?_
        exact ih (t + 1) U' h2 o4' (by omega) (by omega) q1 q2 q3
      refine r_iload3 dX12_withOneMore_7 ?_
      refine r_aload1 dX12_withOneMore_8 ?_
      refine r_arraylength dX12_withOneMore_9 ga_I he1 (by rw [aI_len]) ?_
      refine r_icmp_geN (tgt := 70) dX12_withOneMore_10 (by decide) (by omega) (by omega) (fun c10 => absurd c10 (by omega)) (fun c10 => ?_)
      refine r_aload2 dX12_withOneMore_13 ?_
      refine r_iload3 dX12_withOneMore_14 ?_
      refine r_aload1 dX12_withOneMore_15 ?_
      refine r_iload3 dX12_withOneMore_16 ?_
      refine r_iaload (t) dX12_withOneMore_17 he1 rfl (by omega) (aI_at tl) ?_
      refine r_iastore (t) dX12_withOneMore_18 (by omega) hn rfl (by omega) (by rw [aI_len]; exact tl) ?_
      refine r_iload3 dX12_withOneMore_19 ?_
      refine r_istore4 dX12_withOneMore_20 ?_
      refine inner (t + 1) t t (V t) (fup U t (V t)) _ (by omega) tl t1 inS_rf dnS_0 fup_s (vb t tl) ?_ (fun q hq => by rw [g_un (by omega)]; exact fr q hq) (fun U' h2 o4' q1 q2 q3 q4 => ?_)
      · rw [g_us, aI_set]
        refine congrArg (fun l => some (g_ar 0 l)) (aI_ext fun i hi2 => ?_)
        by_cases e : i = t
        · rw [e, fup_s, fup_s]
        · rw [fup_n e, fup_n e]
      · exact nxt U' h2 o4' (fun q hq => by
          by_cases e : q = t
          · rw [e]; exact q2
          · rw [q1 q e, fup_n e]; exact hU q (by omega)) q3 q4
  refine g_Met.of (M := mX12_withOneMore) (L := [some (.ref s), some (.ref e), none, none, none]) (by decide +kernel) (Nat.le_of_ble_eq_true rfl) rfl ?_
  refine r_aload1 dX12_withOneMore_0 ?_
  refine r_arraylength dX12_withOneMore_1 ga_I he (by rw [aI_len]) ?_
  refine r_newarray (ty := .int) ((2 ^ ρ 2)) dX12_withOneMore_2 rfl ga_I q775 rfl (by omega) (by first | decide | (simp [componentBytes]; omega)) (by omega) (by omega) ?_
  refine r_astore2 dX12_withOneMore_4 ?_
  refine r_iconst (v := nI 1) dX12_withOneMore_5 (by decide) ?_
  refine r_istore3 dX12_withOneMore_6 ?_
  refine g_bud (bc' := 0) (bs' := 0) (by omega) (by omega) (Nat.le_refl _) (outer (2 ^ ρ 2 - 1) 1 (fun _ => 0) _ none (by omega) (by omega) (fun q hq => by have : q = 0 := (by omega); subst this; exact isS_0 (by omega)) ?_ (fun q hq => by exact g_un (by omega)))
  rw [g_us, dv_int, aI_rep]
theorem sh_isH {v : Nat} (w : wB u ρ) (h : isH ρ v) : v = sht ρ := isH_one h (isH_sht w.b.2.2.2.2.2.2.1)
theorem k_shortest12 (k : bkL_ K W lo hi ll el ρ h) (hh : hi ≤ n) (w : wB u ρ) (ho : h s = some (baO ll ρ)) : g_Met K mX12_shortest 5 3 768 [.ref s] h n (gI fun r h' n' => r = nI (sht ρ) ∧ (∀ q : Nat, q < n → h' q = h q) ∧ n ≤ n' ∧ n' ≤ n + 3) gN := by
  refine g_Met.facts fun f1 f2 f3 => ?_
  have wb := w.b
  have sn := f2 _ _ ho
  have p2 : 2 ^ ρ 2 ≤ 2 ^ 8 := Nat.pow_le_pow_right (by omega) (by omega)
  have p1 : 0 < 2 ^ ρ 2 := Nat.two_pow_pos _
  have tabs : ∀ (g m e n1 : Nat) (V : Nat → Nat) (h1 : g_P), m + g = ρ 5 → 1 ≤ m → e < n1 → n ≤ e → n1 ≤ n + m → h1 e = some (g_ar 0 (aI (2 ^ ρ 2) (fun i => nI (V i)))) → (∀ q, q < 2 ^ ρ 2 → isS ρ (ρ 2) m q (V q)) → (∀ q : Nat, q < n → h1 q = h q) → g_G K mX12_shortest 5 g (256 * g) (gI fun r h' n' => r = nI (sht ρ) ∧ (∀ q : Nat, q < n → h' q = h q) ∧ n ≤ n' ∧ n' ≤ n + 3) gN 38 [some (.ref s), some (.ref e), some (.int (nI m))] [] h1 n1 := by
    intro g
    induction g with
    | zero =>
      intro m e n1 V h1 hm m1 en ne nb he hV fr
      have ho1 := (fr s sn).trans ho
      have em : m = ρ 5 := by omega
      have ev := sh_isH w (isS_H (by rw [← em]; exact hV (2 ^ ρ 2 - 1) (by omega)))
      refine r_iload2 dX12_shortest_38 ?_
      refine r_aload0 dX12_shortest_39 ?_
      refine f_X12_15_X12 dX12_shortest_40 ho1 ?_
      refine r_icmp_geN (tgt := 58) dX12_shortest_43 (by decide) (by omega) (by omega) (fun c43 => ?_) (fun c43 => absurd c43 (by omega))
      refine r_aload1 dX12_shortest_58 ?_
      refine r_aload1 dX12_shortest_59 ?_
      refine r_arraylength dX12_shortest_60 ga_I he (by rw [aI_len]) ?_
      refine r_iconst (v := nI 1) dX12_shortest_61 (by decide) ?_
      refine r_isub dX12_shortest_62 (pk_sub (by omega)) ?_
      refine r_iaload ((2 ^ ρ 2 - 1)) dX12_shortest_63 he rfl (by omega) (aI_at (by omega)) ?_
      exact r_ireturn dX12_shortest_64 rfl rfl (⟨by rw [ev], fr, by omega, by omega⟩)
    | succ g ih =>
      intro m e n1 V h1 hm m1 en ne nb he hV fr
      have ho1 := (fr s sn).trans ho
      have k1 := k.keep fun q hq => fr q (by omega)
      refine r_iload2 dX12_shortest_38 ?_
      refine r_aload0 dX12_shortest_39 ?_
      refine f_X12_15_X12 dX12_shortest_40 ho1 ?_
      refine r_icmp_geN (tgt := 58) dX12_shortest_43 (by decide) (by omega) (by omega) (fun c43 => absurd c43 (by omega)) (fun c43 => ?_)
      refine r_aload0 dX12_shortest_46 ?_
      refine r_aload1 dX12_shortest_47 ?_
      refine r_callV (M' := mX12_withOneMore) _ dX12_shortest_48 q813 q815 qs5 rfl (lw_all_tbl q816) q182 (by exact pl_X12_withOneMore) gc_X12 ho1 ((k_withOneMore k1 (by omega) w ho1 m1 (by omega) he hV)) (by omega) (Nat.le_of_ble_eq_true rfl) (by omega) (by omega) rfl (Nat.le_of_ble_eq_true rfl) rfl (kA fun r48 h48 n48 t48 e48 => ?_) kN
      obtain ⟨rfl, ⟨V', q1, q2⟩, q3, rfl⟩ := e48
      refine r_astore1 dX12_shortest_51 ?_
      refine r_iinc2 dX12_shortest_52 (ii1 _) ?_
      refine r_goto (tgt := 38) dX12_shortest_55 (by decide) ?_
      refine g_bud (bc' := g) (bs' := 256 * g) (by omega) (by omega) (Nat.le_refl _) (ih (m + 1) n1 (n1 + 1) V' _ (by omega) (by omega) (by omega) (by omega) (by omega) q1 q2 (fun q hq => (q3 q (by omega)).trans (fr q hq)))
  have fill : ∀ (g t : Nat) (h1 : g_P), t + g = 2 ^ ρ 2 → 1 ≤ t → h1 n = some (g_ar 0 (aI (2 ^ ρ 2) (fun i => if i < t then nI (miS ρ i (ρ 2)) else nI 0))) → (∀ q : Nat, q < n → h1 q = h q) → g_G K mX12_shortest 5 2 512 (gI fun r h' n' => r = nI (sht ρ) ∧ (∀ q : Nat, q < n → h' q = h q) ∧ n ≤ n' ∧ n' ≤ n + 3) gN 16 [some (.ref s), some (.ref n), some (.int (nI t))] [] h1 (n + 1) := by
    intro g
    induction g with
    | zero =>
      intro t h1 ht t1 he fr
      refine r_iload2 dX12_shortest_16 ?_
      refine r_aload1 dX12_shortest_17 ?_
      refine r_arraylength dX12_shortest_18 ga_I he (by rw [aI_len]) ?_
      refine r_icmp_geN (tgt := 36) dX12_shortest_19 (by decide) (by omega) (by omega) (fun c19 => ?_) (fun c19 => absurd c19 (by omega))
      refine r_iconst (v := nI 1) dX12_shortest_36 (by decide) ?_
      refine r_istore2 dX12_shortest_37 ?_
      refine g_bud (bc' := ρ 5 - 1) (bs' := 256 * (ρ 5 - 1)) (by omega) (by omega) (Nat.le_refl _) (tabs (ρ 5 - 1) 1 n (n + 1) (fun i => miS ρ i (ρ 2)) _ (by omega) (by omega) (by omega) (by omega) (by omega) ?_ (fun q hq => isS_1) fr)
      rw [he]
      exact congrArg (fun l => some (g_ar 0 l)) (aI_ext fun i hi => by rw [if_pos (by omega)])
    | succ g ih =>
      intro t h1 ht t1 he fr
      have ho1 := (fr s sn).trans ho
      have k1 := k.keep fun q hq => fr q (by omega)
      refine r_iload2 dX12_shortest_16 ?_
      refine r_aload1 dX12_shortest_17 ?_
      refine r_arraylength dX12_shortest_18 ga_I he (by rw [aI_len]) ?_
      refine r_icmp_geN (tgt := 36) dX12_shortest_19 (by decide) (by omega) (by omega) (fun c19 => absurd c19 (by omega)) (fun c19 => ?_)
      refine r_aload1 dX12_shortest_22 ?_
      refine r_iload2 dX12_shortest_23 ?_
      refine r_aload0 dX12_shortest_24 ?_
      refine r_iload2 dX12_shortest_25 ?_
      refine r_callV (M' := mX12_minutes) _ dX12_shortest_26 q461 q463 qs0 rfl (lw_all_tbl q464) q182 (by exact pl_X12_minutes) gc_X12 ho1 ((k_minutes12 k1 w ho1 (by omega))) (by omega) (Nat.le_of_ble_eq_true rfl) (by omega) (by omega) rfl (Nat.le_of_ble_eq_true rfl) rfl (kI fun r26 h26 n26 e26 => ?_) kN
      obtain ⟨q9, q8, q7⟩ := e26; have q9 := q9.symm; have q8 := q8.symm; have q7 := q7.symm; subst q9; subst q8; subst q7
      refine r_iastore (t) dX12_shortest_29 (by omega) he rfl (by omega) (by rw [aI_len]; omega) ?_
      refine r_iinc2 dX12_shortest_30 (ii1 _) ?_
      refine r_goto (tgt := 16) dX12_shortest_33 (by decide) ?_
      refine ih (t + 1) _ (by omega) (by omega) ?_ (fun q hq => by rw [g_un (by omega)]; exact fr q hq)
      rw [g_us, aI_set]
      refine congrArg (fun l => some (g_ar 0 l)) (aI_ext fun i hi2 => ?_)
      by_cases e : i = t
      · rw [e, fup_s, if_pos (by omega)]
      · rw [fup_n e]
        by_cases e2 : i < t
        · rw [if_pos e2, if_pos (by omega)]
        · rw [if_neg e2, if_neg (by omega)]
  obtain ⟨y1, y2, y3⟩ := k.cell
  refine g_Met.of (M := mX12_shortest) (L := [some (.ref s), none, none]) (by decide +kernel) (Nat.le_of_ble_eq_true rfl) rfl ?_
  refine r_iconst (v := nI 1) dX12_shortest_0 (by decide) ?_
  refine r_aload0 dX12_shortest_1 ?_
  refine f_X12_9_X12 dX12_shortest_2 ho ?_
  refine r_callF (M' := mJ4_size) _ dX12_shortest_5 q460 q413 q412 rfl q415 q417 q418 q416 q414 rfl (lw_all_tbl q419) q131 (by exact (⟨by decide, by decide, by decide +kernel⟩ : g_pl ⟨"java/util/List", "size", "()I"⟩ 0)) gc_J4 y3 ((k_sizeL k)) (by omega) (Nat.le_of_ble_eq_true rfl) (by omega) (by omega) rfl (Nat.le_of_ble_eq_true rfl) rfl (kI fun r5 h5 n5 e5 => ?_) kN
  obtain ⟨q9, q8, q7⟩ := e5; have q9 := q9.symm; have q8 := q8.symm; have q7 := q7.symm; subst q9; subst q8; subst q7
  refine r_ishl dX12_shortest_10 (sh_1 _ (by omega)) ?_
  refine r_newarray (ty := .int) ((2 ^ ρ 2)) dX12_shortest_11 rfl ga_I q775 rfl (by omega) (by first | decide | (simp [componentBytes]; omega)) (by omega) (by omega) ?_
  refine r_astore1 dX12_shortest_13 ?_
  refine r_iconst (v := nI 1) dX12_shortest_14 (by decide) ?_
  refine r_istore2 dX12_shortest_15 ?_
  refine g_bud (bc' := 2) (bs' := 512) (by omega) (by omega) (Nat.le_refl _) (fill (2 ^ ρ 2 - 1) 1 _ (by omega) (by omega) ?_ (fun q hq => by exact g_un (by omega)))
  rw [g_us, dv_int, aI_rep]
  exact congrArg (fun l => some (g_ar 0 l)) (aI_ext fun i hi => by by_cases e : i < 1; rw [if_pos e, show i = 0 by omega, miS_0]; rw [if_neg e])
/-! branch and bound -/
theorem isO_one {T : Nat → Nat} {k g v v' : Nat} (p : isO ρ T k g v) (q : isO ρ T k g v') : v = v' := by
  obtain ⟨⟨a, a1, a2⟩, a3⟩ := p
  obtain ⟨⟨b, b1, b2⟩, b3⟩ := q
  have := a3 b b1
  have := b3 a a1
  omega
theorem isO_min {T V : Nat → Nat} {k g v : Nat} (h5 : 1 ≤ ρ 5) (hV : ∀ j, j < ρ 5 → isO ρ (fup T j (T j + ρ (33 + 3 * k))) (k + 1) g (V j)) (h : isO ρ T k (g + 1) v) : (∃ j, j < ρ 5 ∧ v = V j) ∧ ∀ j, j < ρ 5 → v ≤ V j := by
  obtain ⟨j, h1, h2⟩ := mnF_ex (f := V) (k := ρ 5 - 1)
  have e := isO_one h (isO_s h5 hV (v := mnF V (ρ 5 - 1)) (fun j hj => mnF_le (by omega)) ⟨j, by omega, h2⟩)
  rw [e]
  exact ⟨⟨j, by omega, h2⟩, fun j hj => mnF_le (by omega)⟩
theorem lg3_up {T : Nat → Nat} {i X : Nat} (hi : i < 3) (h : T i ≤ X) : lg3 (fup T i X) = max (lg3 T) X := by
  have : i = 0 ∨ i = 1 ∨ i = 2 := by omega
  unfold lg3
  rcases this with rfl | rfl | rfl
  · rw [fup_s, fup_n (by decide), fup_n (by decide)]; omega
  · rw [fup_s, fup_n (by decide), fup_n (by decide)]; omega
  · rw [fup_s, fup_n (by decide), fup_n (by decide)]; omega
/-- the ovens' times -/
def tmC (ρ T : Nat → Nat) : g_C := g_ar 0 (aI (ρ 5) (fun i => nI (T i)))
theorem k_decide (w : wB u ρ) {e : Nat} (be : k_b K ≤ e) : ∀ (g j : Nat) (T : Nat → Nat) (best v : Nat) (h : g_P), j + g = ρ 2 → bkL_ K W lo hi ll el ρ h → h s = some (baO ll ρ) → h e = some (tmC ρ T) → hi ≤ e → (∀ i, T i ≤ 60 * j) → best ≤ 1000000 → isO ρ T j g v → g_Met K mX12_decide (g + 3) 0 0 [.ref s, .int (nI j), .ref e, .int (nI (lg3 T)), .int (nI best)] h n (gI fun r h' n' => r = nI (min v best) ∧ h' = h ∧ n' = n) gN := by
  have wb := w.b
  intro g
  induction g with
  | zero =>
    intro j T best v h hj k ho he hie hT hb hv
    have lt := lg3_b hT
    obtain ⟨y1, y2, y3⟩ := k.cell
    have ev : v = lg3 T := isO_one hv (isO_0 wb.2.2.2.2.2.2.1)
    subst ev
    refine g_Met.of (M := mX12_decide) (L := [some (.ref s), some (.int (nI j)), some (.ref e), some (.int (nI (lg3 T))), some (.int (nI best)), none, none]) (by decide +kernel) (Nat.le_of_ble_eq_true rfl) rfl ?_
    refine r_iload3 dX12_decide_0 ?_
    refine r_iload4 dX12_decide_1 ?_
    refine r_icmp_geN (tgt := 19) dX12_decide_3 (by decide) (by omega) (by omega) (fun c3 => ?_) (fun c3 => ?_)
    · refine r_iload3 dX12_decide_19 ?_
      refine r_iload4 dX12_decide_20 ?_
      refine r_callS (M' := mJ16_min) _ dX12_decide_22 q818 q594 rfl (lw_all_tbl q595) q148 (by exact pl_J16_min)  ((k_min (by omega) (by omega))) (by omega) (Nat.le_of_ble_eq_true rfl) (by omega) (by omega) rfl (Nat.le_of_ble_eq_true rfl) rfl (kI fun r22 h22 n22 e22 => ?_) kN
      obtain ⟨q9, q8, q7⟩ := e22; have q9 := q9.symm; have q8 := q8.symm; have q7 := q7.symm; subst q9; subst q8; subst q7
      exact r_ireturn dX12_decide_25 rfl rfl (⟨rfl, rfl, rfl⟩)
    · refine r_iload1 dX12_decide_6 ?_
      refine r_aload0 dX12_decide_7 ?_
      refine f_X12_9_X12 dX12_decide_8 ho ?_
      refine r_callF (M' := mJ4_size) _ dX12_decide_11 q460 q413 q412 rfl q415 q417 q418 q416 q414 rfl (lw_all_tbl q419) q131 (by exact (⟨by decide, by decide, by decide +kernel⟩ : g_pl ⟨"java/util/List", "size", "()I"⟩ 0)) gc_J4 y3 ((k_sizeL k)) (by omega) (Nat.le_of_ble_eq_true rfl) (by omega) (by omega) rfl (Nat.le_of_ble_eq_true rfl) rfl (kI fun r11 h11 n11 e11 => ?_) kN
      obtain ⟨q9, q8, q7⟩ := e11; have q9 := q9.symm; have q8 := q8.symm; have q7 := q7.symm; subst q9; subst q8; subst q7
      refine r_icmp_neN (tgt := 26) dX12_decide_16 (by decide) (by omega) (by omega) (fun c16 => absurd c16 (by omega)) (fun c16 => ?_)
      refine r_iload3 dX12_decide_19 ?_
      refine r_iload4 dX12_decide_20 ?_
      refine r_callS (M' := mJ16_min) _ dX12_decide_22 q818 q594 rfl (lw_all_tbl q595) q148 (by exact pl_J16_min)  ((k_min (by omega) (by omega))) (by omega) (Nat.le_of_ble_eq_true rfl) (by omega) (by omega) rfl (Nat.le_of_ble_eq_true rfl) rfl (kI fun r22 h22 n22 e22 => ?_) kN
      obtain ⟨q9, q8, q7⟩ := e22; have q9 := q9.symm; have q8 := q8.symm; have q7 := q7.symm; subst q9; subst q8; subst q7
      exact r_ireturn dX12_decide_25 rfl rfl (⟨rfl, rfl, rfl⟩)
  | succ g ih =>
    intro j T best v h hj k ho he hie hT hb hv
    have lt := lg3_b hT
    have lv := isO_le hv
    obtain ⟨y1, y2, y3⟩ := k.cell
    obtain ⟨x, z1, z2, z3⟩ := k_getL (n := n) k (i := j) (by omega)
    have wl := w.l (k := j) (by omega)
    obtain ⟨V, hV⟩ : ∃ V : Nat → Nat, ∀ i, isO ρ (fup T i (T i + ρ (33 + 3 * j))) (j + 1) g (V i) := ⟨fun i => Classical.choose (isO_ex wb.2.2.2.2.2.2.1 g (j + 1) (fup T i (T i + ρ (33 + 3 * j)))), fun i => Classical.choose_spec (isO_ex wb.2.2.2.2.2.2.1 g (j + 1) (fup T i (T i + ρ (33 + 3 * j))))⟩
    refine g_Met.of (M := mX12_decide) (L := [some (.ref s), some (.int (nI j)), some (.ref e), some (.int (nI (lg3 T))), some (.int (nI best)), none, none]) (by decide +kernel) (Nat.le_of_ble_eq_true rfl) rfl ?_
    have loop : ∀ (f i sh : Nat), i + f = ρ 5 → sh ≤ best → (∀ i2, i2 < i → sh ≤ V i2) → (sh = best ∨ ∃ i2, i2 < i ∧ sh = V i2) → g_G K mX12_decide (g + 1 + 3) 0 0 (gI fun r h' n' => r = nI (min v best) ∧ h' = h ∧ n' = n) gN 33 [some (.ref s), some (.int (nI j)), some (.ref e), some (.int (nI (lg3 T))), some (.int (nI best)), some (.int (nI sh)), some (.int (nI i))] [] h n := by
      intro f
      induction f with
      | zero =>
        intro i sh hi sb a1 a2
        have ei : i = ρ 5 := by omega
        subst ei
        have em : sh = min v best := by
          obtain ⟨⟨i2, b1, b2⟩, m2⟩ := isO_min wb.2.2.2.2.2.2.1 (fun j _ => hV j) hv
          have b3 := a1 i2 b1
          rcases a2 with a2 | ⟨i3, a3, a4⟩
          · omega
          · have := m2 i3 a3
            omega
        refine r_iload6 dX12_decide_33 ?_
        refine r_aload0 dX12_decide_35 ?_
        refine f_X12_15_X12 dX12_decide_36 ho ?_
        refine r_icmp_geN (tgt := 114) dX12_decide_39 (by decide) (by omega) (by omega) (fun c39 => ?_) (fun c39 => absurd c39 (by omega))
        refine r_iload5 dX12_decide_114 ?_
        exact r_ireturn dX12_decide_116 rfl rfl (⟨by rw [em], rfl, rfl⟩)
      | succ f ihf =>
        intro i sh hi sb a1 a2
        have i3 : i < ρ 5 := by omega
        have eA : g_ar 0 ((aI (ρ 5) (fun i => nI (T i))).set i (.int (nI (T i + ρ (33 + 3 * j))))) = tmC ρ (fup T i (T i + ρ (33 + 3 * j))) := by
          unfold tmC
          rw [aI_set]
          refine congrArg (g_ar 0) (aI_ext fun i2 h2 => ?_)
          by_cases z : i2 = i
          · rw [z, fup_s, fup_s]
          · rw [fup_n z, fup_n z]
        have eB : g_up (g_up h e (tmC ρ (fup T i (T i + ρ (33 + 3 * j))))) e (g_ar 0 ((aI (ρ 5) (fun i2 => nI (fup T i (T i + ρ (33 + 3 * j)) i2))).set i (.int (nI (T i))))) = h := by
          rw [g_up_up, aI_set]
          refine g_self (he.trans (congrArg (fun l => some (g_ar 0 l)) (aI_ext fun i2 h2 => ?_)))
          by_cases z : i2 = i
          · rw [z, fup_s]
          · rw [fup_n z, fup_n z]
        have kH := k.keep (h' := g_up h e (tmC ρ (fup T i (T i + ρ (33 + 3 * j))))) fun q hq => g_un (by omega)
        have hoH : (g_up h e (tmC ρ (fup T i (T i + ρ (33 + 3 * j))))) s = some (baO ll ρ) := by
          rw [g_un (fun z => by rw [z, he] at ho; exact obj_arr ho.symm)]
          exact ho
        obtain ⟨y1', y2', y3'⟩ := kH.cell
        obtain ⟨x', z1', z2', z3'⟩ := k_getL (n := n) kH (i := j) (by omega)
        have hTi := hT i
        have hT' : ∀ i2, fup T i (T i + ρ (33 + 3 * j)) i2 ≤ 60 * (j + 1) := fun i2 => by
          have := hT i2
          by_cases z : i2 = i
          · rw [z, fup_s]; omega
          · rw [fup_n z]; omega
        have e5 : max (lg3 T) (fup T i (T i + ρ (33 + 3 * j)) i) = lg3 (fup T i (T i + ρ (33 + 3 * j))) := by
          rw [fup_s, lg3_up (by omega) (by omega)]
        refine r_iload6 dX12_decide_33 ?_
        refine r_aload0 dX12_decide_35 ?_
        refine f_X12_15_X12 dX12_decide_36 ho ?_
        refine r_icmp_geN (tgt := 114) dX12_decide_39 (by decide) (by omega) (by omega) (fun c39 => absurd c39 (by omega)) (fun c39 => ?_)
        refine r_aload2 dX12_decide_42 ?_
        refine r_iload6 dX12_decide_43 ?_
        refine r_dup2 dX12_decide_45 ?_
        refine r_iaload (i) dX12_decide_46 he rfl (by omega) (aI_at i3) ?_
        refine r_aload0 dX12_decide_47 ?_
        refine f_X12_9_X12 dX12_decide_48 ho ?_
        refine r_iload1 dX12_decide_51 ?_
        refine r_callF (M' := mJ4_get) _ dX12_decide_52 q466 q468 q467 rfl q469 q471 q472 q470 q414 rfl (lw_all_tbl q473) q131 (by exact (⟨by decide, by decide, by decide +kernel⟩ : g_pl ⟨"java/util/List", "get", "(I)Ljava/lang/Object;"⟩ 1)) gc_J4 y3 (z3) (by omega) (Nat.le_of_ble_eq_true rfl) (by omega) (by omega) rfl (Nat.le_of_ble_eq_true rfl) rfl (kA fun r52 h52 n52 t52 e52 => ?_) kN
        obtain ⟨q9, q8, q7⟩ := e52; have q9 := q9.symm; have q8 := q8.symm; have q7 := q7.symm; subst q9; subst q8; subst q7
        refine r_checkcast dX12_decide_57 gc_X8 q812 (Or.inl rfl) z1 ?_
        refine f_X12_31_X8 dX12_decide_60 z1 ?_
        refine r_iadd dX12_decide_63 (nI_add _ _) ?_
        refine r_iastore (i) dX12_decide_64 (by omega) he rfl (by omega) (by rw [aI_len]; exact i3) ?_
        rw [eA]
        refine r_aload0 dX12_decide_65 ?_
        refine r_iload1 dX12_decide_66 ?_
        refine r_iconst (v := nI 1) dX12_decide_67 (by decide) ?_
        refine r_iadd dX12_decide_68 (nI_add _ _) ?_
        refine r_aload2 dX12_decide_69 ?_
        refine r_iload3 dX12_decide_70 ?_
        refine r_aload2 dX12_decide_71 ?_
        refine r_iload6 dX12_decide_72 ?_
        refine r_iaload (i) dX12_decide_74 g_us rfl (by omega) (aI_at i3) ?_
        refine r_callS (M' := mJ16_max) _ dX12_decide_75 q817 q576 rfl (lw_all_tbl q577) q148 (by exact pl_J16_max)  ((k_max (by omega) (by rw [fup_s]; omega))) (by omega) (Nat.le_of_ble_eq_true rfl) (by omega) (by omega) rfl (Nat.le_of_ble_eq_true rfl) rfl (kI fun r75 h75 n75 e75 => ?_) kN
        obtain ⟨q9, q8, q7⟩ := e75; have q9 := q9.symm; have q8 := q8.symm; have q7 := q7.symm; subst q9; subst q8; subst q7
        refine g_st (st' := [.int (nI (lg3 (fup T i (T i + ρ (33 + 3 * j))))), .ref e, .int (nI (j + 1)), .ref s]) (by rw [e5]) ?_
        refine r_iload5 dX12_decide_78 ?_
        refine r_callV (M' := mX12_decide) _ dX12_decide_80 q828 q830 qs6 rfl (lw_all_tbl q831) q182 (by exact pl_X12_decide) gc_X12 hoH ((ih (j + 1) (fup T i (T i + ρ (33 + 3 * j))) sh (V i) _ (by omega) kH hoH g_us hie hT' (by omega) (hV i))) (by omega) (Nat.le_of_ble_eq_true rfl) (by omega) (by omega) rfl (Nat.le_of_ble_eq_true rfl) rfl (kI fun r80 h80 n80 e80 => ?_) kN
        obtain ⟨q9, q8, q7⟩ := e80; have q9 := q9.symm; have q8 := q8.symm; have q7 := q7.symm; subst q9; subst q8; subst q7
        refine r_istore5 dX12_decide_83 ?_
        refine r_aload2 dX12_decide_85 ?_
        refine r_iload6 dX12_decide_86 ?_
        refine r_dup2 dX12_decide_88 ?_
        refine r_iaload (i) dX12_decide_89 g_us rfl (by omega) (aI_at i3) ?_
        refine r_aload0 dX12_decide_90 ?_
        refine f_X12_9_X12 dX12_decide_91 hoH ?_
        refine r_iload1 dX12_decide_94 ?_
        refine r_callF (M' := mJ4_get) _ dX12_decide_95 q466 q468 q467 rfl q469 q471 q472 q470 q414 rfl (lw_all_tbl q473) q131 (by exact (⟨by decide, by decide, by decide +kernel⟩ : g_pl ⟨"java/util/List", "get", "(I)Ljava/lang/Object;"⟩ 1)) gc_J4 y3' (z3') (by omega) (Nat.le_of_ble_eq_true rfl) (by omega) (by omega) rfl (Nat.le_of_ble_eq_true rfl) rfl (kA fun r95 h95 n95 t95 e95 => ?_) kN
        obtain ⟨q9, q8, q7⟩ := e95; have q9 := q9.symm; have q8 := q8.symm; have q7 := q7.symm; subst q9; subst q8; subst q7
        refine r_checkcast dX12_decide_100 gc_X8 q812 (Or.inl rfl) z1' ?_
        refine f_X12_31_X8 dX12_decide_103 z1' ?_
        refine r_isub dX12_decide_106 (show _ = nI (T i) by rw [fup_s, pk_sub (by omega), Nat.add_sub_cancel]) ?_
        refine r_iastore (i) dX12_decide_107 (by omega) g_us rfl (by omega) (by rw [aI_len]; exact i3) ?_
        rw [eB]
        refine r_iinc6 dX12_decide_108 (ii1 _) ?_
        refine r_goto (tgt := 33) dX12_decide_111 (by decide) ?_
        exact ihf (i + 1) (min (V i) sh) (by omega) (by omega) (fun i2 h2 => by
          by_cases z : i2 = i
          · rw [z]; exact Nat.min_le_left _ _
          · exact Nat.le_trans (Nat.min_le_right _ _) (a1 i2 (by omega))) (by
          rcases Nat.le_total (V i) sh with z | z
          · exact Or.inr ⟨i, by omega, Nat.min_eq_left z⟩
          · rw [Nat.min_eq_right z]
            rcases a2 with a2 | ⟨i2, a3, a4⟩
            · exact Or.inl a2
            · exact Or.inr ⟨i2, by omega, a4⟩)
    refine r_iload3 dX12_decide_0 ?_
    refine r_iload4 dX12_decide_1 ?_
    refine r_icmp_geN (tgt := 19) dX12_decide_3 (by decide) (by omega) (by omega) (fun c3 => ?_) (fun c3 => ?_)
    · refine r_iload3 dX12_decide_19 ?_
      refine r_iload4 dX12_decide_20 ?_
      refine r_callS (M' := mJ16_min) _ dX12_decide_22 q818 q594 rfl (lw_all_tbl q595) q148 (by exact pl_J16_min)  ((k_min (by omega) (by omega))) (by omega) (Nat.le_of_ble_eq_true rfl) (by omega) (by omega) rfl (Nat.le_of_ble_eq_true rfl) rfl (kI fun r22 h22 n22 e22 => ?_) kN
      obtain ⟨q9, q8, q7⟩ := e22; have q9 := q9.symm; have q8 := q8.symm; have q7 := q7.symm; subst q9; subst q8; subst q7
      exact r_ireturn dX12_decide_25 rfl rfl (⟨by rw [Nat.min_eq_right (by omega), Nat.min_eq_right (by omega)], rfl, rfl⟩)
    · refine r_iload1 dX12_decide_6 ?_
      refine r_aload0 dX12_decide_7 ?_
      refine f_X12_9_X12 dX12_decide_8 ho ?_
      refine r_callF (M' := mJ4_size) _ dX12_decide_11 q460 q413 q412 rfl q415 q417 q418 q416 q414 rfl (lw_all_tbl q419) q131 (by exact (⟨by decide, by decide, by decide +kernel⟩ : g_pl ⟨"java/util/List", "size", "()I"⟩ 0)) gc_J4 y3 ((k_sizeL k)) (by omega) (Nat.le_of_ble_eq_true rfl) (by omega) (by omega) rfl (Nat.le_of_ble_eq_true rfl) rfl (kI fun r11 h11 n11 e11 => ?_) kN
      obtain ⟨q9, q8, q7⟩ := e11; have q9 := q9.symm; have q8 := q8.symm; have q7 := q7.symm; subst q9; subst q8; subst q7
      refine r_icmp_neN (tgt := 26) dX12_decide_16 (by decide) (by omega) (by omega) (fun c16 => ?_) (fun c16 => absurd c16 (by omega))
      refine r_iload4 dX12_decide_26 ?_
      refine r_istore5 dX12_decide_28 ?_
      refine r_iconst (v := nI 0) dX12_decide_30 (by decide) ?_
      refine r_istore6 dX12_decide_31 ?_
      exact loop (ρ 5) 0 best (by omega) (Nat.le_refl _) (fun i2 h2 => by omega) (Or.inl rfl)
theorem sht_b (w : wB u ρ) : sht ρ ≤ 480 := Nat.le_trans (mnF_le (Nat.zero_le _)) (tmO_b w)
theorem k_byDeciding (k : bkL_ K W lo hi ll el ρ h) (hh : hi ≤ n) (w : wB u ρ) (ho : h s = some (baO ll ρ)) : g_Met K mX12_shortestByDeciding 12 1 3 [.ref s] h n (gI fun r h' n' => r = nI (sht ρ) ∧ (∀ q : Nat, q < n → h' q = h q) ∧ n' = n + 1) gN := by
  refine g_Met.facts fun f1 f2 f3 => ?_
  have wb := w.b
  have sn := f2 _ _ ho
  obtain ⟨v, hv⟩ := isO_ex wb.2.2.2.2.2.2.1 (ρ 2) 0 (fun _ => 0)
  have ev := sh_isH w (isO_H hv)
  have sb := sht_b w
  have hA : (g_up h n (g_ar 0 (List.replicate (ρ 5) (defaultValue .int)))) n = some (tmC ρ (fun _ => 0)) := by
    rw [g_us, dv_int, aI_rep]
    rfl
  have ho1 : (g_up h n (g_ar 0 (List.replicate (ρ 5) (defaultValue .int)))) s = some (baO ll ρ) := by
    rw [g_un (by omega)]
    exact ho
  refine g_Met.of (M := mX12_shortestByDeciding) (L := [some (.ref s)]) (by decide +kernel) (Nat.le_of_ble_eq_true rfl) rfl ?_
  refine r_aload0 dX12_shortestByDeciding_0 ?_
  refine r_iconst (v := nI 0) dX12_shortestByDeciding_1 (by decide) ?_
  refine r_aload0 dX12_shortestByDeciding_2 ?_
  refine f_X12_15_X12 dX12_shortestByDeciding_3 ho ?_
  refine r_newarray (ty := .int) ((ρ 5)) dX12_shortestByDeciding_6 rfl ga_I q775 rfl (by omega) (by first | decide | (simp [componentBytes]; omega)) (by omega) (by omega) ?_
  refine r_iconst (v := nI 0) dX12_shortestByDeciding_8 (by decide) ?_
  refine r_ldc dX12_shortestByDeciding_9 q827 ?_
  refine g_st (st' := [.int (nI 1000000), .int (nI (lg3 fun _ => 0)), .ref n, .int (nI 0), .ref s]) rfl ?_
  refine r_callV (M' := mX12_decide) _ dX12_shortestByDeciding_11 q828 q830 qs6 rfl (lw_all_tbl q831) q182 (by exact pl_X12_decide) gc_X12 ho1 ((k_decide w f1 (ρ 2) 0 (fun _ => 0) 1000000 v _ (by omega) (k.keep fun q hq => by rw [g_un (by omega)]) ho1 hA hh (fun _ => Nat.zero_le _) (Nat.le_refl _) hv)) (by omega) (Nat.le_of_ble_eq_true rfl) (by omega) (by omega) rfl (Nat.le_of_ble_eq_true rfl) rfl (kI fun r11 h11 n11 e11 => ?_) kN
  obtain ⟨rfl, rfl, rfl⟩ := e11
  exact r_ireturn dX12_shortestByDeciding_14 rfl rfl (⟨by rw [ev, Nat.min_eq_left (by omega)], fun q hq => g_un (by omega), rfl⟩)
end
