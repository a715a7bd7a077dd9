/-! LinkedList -/
set_option maxRecDepth 100000
def fl (h h' : g_P) (l : Nat) (Q : List (Nat × Value)) : Prop := ∀ z : Nat, z ≠ l → (∀ w ∈ Q, w.1 ≠ z) → h' z = h z
section
variable {K : g_K} {l n : Nat} {m : Int32} {Q : List (Nat × Value)} {h : g_P}
theorem k_J5_init {v0 v1 v2 v3 : Value} (hb : k_b K ≤ l) (ho : h l = some (g_ob 19 [v0, v1, v2, v3])) : g_Met K mJ5_init 3 0 0 [.ref l] h n (gV fun h' n' => h' = g_up h l (g_ob 19 [.int (nI 0), v1, v2, v3]) ∧ n' = n) gN := by
  refine g_Met.of (M := mJ5_init) (L := [some (.ref l)]) (by decide +kernel) (Nat.le_of_ble_eq_true rfl) rfl ?_
  refine r_aload0 dJ5_init_0 ?_
  refine r_callI (M' := mJ3_init) _ dJ5_init_1 q326 q248 rfl rfl rfl (lw_all_tbl q249) q130 (by exact pl_J3_init)  ((k_J3_initL hb ho)) (by omega) (Nat.le_of_ble_eq_true rfl) (by omega) (by omega) rfl (Nat.le_of_ble_eq_true rfl) rfl (kV fun h1 n1 e1 => ?_) kN
  obtain ⟨q8, q7⟩ := e1; have q8 := q8.symm; have q7 := q7.symm; subst q8; subst q7
  exact r_return dJ5_init_4 rfl (⟨rfl, rfl⟩)
theorem k_J6_init {v0 v1 : Value} (hb : k_b K ≤ l) (ho : h l = some (g_ob 19 [v0, v1, .null, .null])) : g_Met K mJ6_init 4 0 0 [.ref l] h n (gV fun h' n' => lk K l (nI 0) [] h' ∧ (∀ q : Nat, q ≠ l → h' q = h q) ∧ n' = n) gN := by
  refine g_Met.of (M := mJ6_init) (L := [some (.ref l)]) (by decide +kernel) (Nat.le_of_ble_eq_true rfl) rfl ?_
  refine r_aload0 dJ6_init_0 ?_
  refine r_callI (M' := mJ5_init) _ dJ6_init_1 q323 q324 rfl rfl rfl (lw_all_tbl q325) q132 (by exact pl_J5_init)  ((k_J5_init hb ho)) (by omega) (Nat.le_of_ble_eq_true rfl) (by omega) (by omega) rfl (Nat.le_of_ble_eq_true rfl) rfl (kV fun h1 n1 e1 => ?_) kN
  obtain ⟨q8, q7⟩ := e1; have q8 := q8.symm; have q7 := q7.symm; subst q8; subst q7
  refine r_aload0 dJ6_init_4 ?_
  refine r_iconst (v := nI 0) dJ6_init_5 (by decide) ?_
  refine p_J6_7_J6 dJ6_init_6 (by omega) g_us ?_
  exact r_return dJ6_init_9 rfl (⟨⟨⟨.null, .null, g_us, rfl, rfl⟩, by simp, fun z hz => by simp at hz, fun z hz => by simp at hz⟩, fun q hq => by rw [g_un hq, g_un hq], rfl⟩)
theorem k_J6_size (s : lk K l m Q h) : g_Met K mJ6_size 0 0 0 [.ref l] h n (gI fun r h' n' => r = nI Q.length ∧ h' = h ∧ n' = n) gN := by
  obtain ⟨⟨x, y, e1, s1⟩, -⟩ := s
  refine g_Met.of (M := mJ6_size) (L := [some (.ref l)]) (by decide +kernel) (Nat.le_of_ble_eq_true rfl) rfl ?_
  refine r_aload0 dJ6_size_0 ?_
  refine f_J6_7_J6 dJ6_size_1 (by first | assumption | exact g_us | (rw [g_un (by omega)]; assumption) | (rw [g_un (by omega)]; exact g_us) | (rw [g_un (by omega), g_un (by omega)]; assumption) | (rw [g_un (by omega), g_un (by omega)]; exact g_us) | (rw [g_un (by omega), g_un (by omega), g_un (by omega)]; assumption) | ((repeat (rw [g_un (by omega)])); first | exact g_us | assumption)) ?_
  exact r_ireturn dJ6_size_4 rfl rfl (⟨rfl, rfl, rfl⟩)
theorem k_J2_isEmpty (s : lk K l m Q h) (hq : Q.length < 2147483648) : g_Met K mJ2_isEmpty 1 0 0 [.ref l] h n (gI fun r h' n' => r = nB (Q.length = 0) ∧ h' = h ∧ n' = n) gN := by
  have s0 := s
  obtain ⟨⟨x, y, e1, s1⟩, -⟩ := s
  refine g_Met.of (M := mJ2_isEmpty) (L := [some (.ref l)]) (by decide +kernel) (Nat.le_of_ble_eq_true rfl) rfl ?_
  refine r_aload0 dJ2_isEmpty_0 ?_
  refine r_callVU (M' := mJ6_size) _ dJ2_isEmpty_1 q2084 q4012 (Or.inr q1366) ⟨by decide, by decide⟩ q4015 q423 rfl (lw_all_tbl q425) q133 (by exact (⟨by decide, by decide, by decide +kernel⟩ : g_pl ⟨"java/util/AbstractCollection", "size", "()I"⟩ 0)) gc_J6 (by first | assumption | exact g_us | (rw [g_un (by omega)]; assumption) | (rw [g_un (by omega)]; exact g_us) | (rw [g_un (by omega), g_un (by omega)]; assumption) | (rw [g_un (by omega), g_un (by omega)]; exact g_us) | (rw [g_un (by omega), g_un (by omega), g_un (by omega)]; assumption) | ((repeat (rw [g_un (by omega)])); first | exact g_us | assumption)) ((k_J6_size s0)) (by omega) (Nat.le_of_ble_eq_true rfl) (by omega) (by omega) rfl (Nat.le_of_ble_eq_true rfl) rfl (kI fun r1 h1 n1 e1 => ?_) kN
  obtain ⟨q9, q8, q7⟩ := e1; have q9 := q9.symm; have q8 := q8.symm; have q7 := q7.symm; subst q9; subst q8; subst q7
  refine r_if_neN (tgt := 11) dJ2_isEmpty_4 (by decide) (by omega) (fun c4 => ?_) (fun c4 => ?_)
  · refine r_iconst (v := nI 0) dJ2_isEmpty_11 (by decide) ?_
    exact r_ireturn dJ2_isEmpty_12 rfl (by first | exact nB_nar | rfl) (⟨nB_f c4, rfl, rfl⟩)
  · refine r_iconst (v := nI 1) dJ2_isEmpty_7 (by decide) ?_
    refine r_goto (tgt := 12) dJ2_isEmpty_8 (by decide) ?_
    exact r_ireturn dJ2_isEmpty_12 rfl (by first | exact nB_nar | rfl) (⟨nB_t c4, rfl, rfl⟩)
theorem k_J37_init {t x : Nat} {v0 v1 v2 p : Value} (hb : k_b K ≤ t) (ho : h t = some (lN_ v0 v1 v2)) (hp : p = .null ∨ ∃ a, p = .ref a) : g_Met K mJ37_init 1 0 0 [.ref t, p, .ref x, .null] h n (gV fun h' n' => h' = g_up h t (lN_ (.ref x) .null p) ∧ n' = n) gN := by
  rcases hp with rfl | ⟨a, rfl⟩
  · skip
    refine g_Met.of (M := mJ37_init) (L := [some (.ref t), some (.null), some (.ref x), some (.null)]) (by decide +kernel) (Nat.le_of_ble_eq_true rfl) rfl ?_
    refine r_aload0 dJ37_init_0 ?_
    refine r_objInit dJ37_init_1 q2271 q200 q201 rfl (by omega) (Nat.le_of_ble_eq_true rfl) ?_
    refine r_aload0 dJ37_init_4 ?_
    refine r_aload2 dJ37_init_5 ?_
    refine p_J37_7_J37 dJ37_init_6 (by omega) (by first | assumption | exact g_us | (rw [g_un (by omega)]; assumption) | (rw [g_un (by omega)]; exact g_us) | (rw [g_un (by omega), g_un (by omega)]; assumption) | (rw [g_un (by omega), g_un (by omega)]; exact g_us) | (rw [g_un (by omega), g_un (by omega), g_un (by omega)]; assumption) | ((repeat (rw [g_un (by omega)])); first | exact g_us | assumption)) ?_
    refine r_aload0 dJ37_init_9 ?_
    refine r_aloadZ3 dJ37_init_10 ?_
    refine p_J37_13_J37 dJ37_init_11 (by omega) g_us ?_
    refine r_aload0 dJ37_init_14 ?_
    refine r_aloadZ1 dJ37_init_15 ?_
    refine p_J37_17_J37 dJ37_init_16 (by omega) g_us ?_
    exact r_return dJ37_init_19 rfl (⟨by rw [g_up_up, g_up_up], rfl⟩)
  · skip
    refine g_Met.of (M := mJ37_init) (L := [some (.ref t), some (.ref a), some (.ref x), some (.null)]) (by decide +kernel) (Nat.le_of_ble_eq_true rfl) rfl ?_
    refine r_aload0 dJ37_init_0 ?_
    refine r_objInit dJ37_init_1 q2271 q200 q201 rfl (by omega) (Nat.le_of_ble_eq_true rfl) ?_
    refine r_aload0 dJ37_init_4 ?_
    refine r_aload2 dJ37_init_5 ?_
    refine p_J37_7_J37 dJ37_init_6 (by omega) (by first | assumption | exact g_us | (rw [g_un (by omega)]; assumption) | (rw [g_un (by omega)]; exact g_us) | (rw [g_un (by omega), g_un (by omega)]; assumption) | (rw [g_un (by omega), g_un (by omega)]; exact g_us) | (rw [g_un (by omega), g_un (by omega), g_un (by omega)]; assumption) | ((repeat (rw [g_un (by omega)])); first | exact g_us | assumption)) ?_
    refine r_aload0 dJ37_init_9 ?_
    refine r_aloadZ3 dJ37_init_10 ?_
    refine p_J37_13_J37 dJ37_init_11 (by omega) g_us ?_
    refine r_aload0 dJ37_init_14 ?_
    refine r_aload1 dJ37_init_15 ?_
    refine p_J37_17_J37 dJ37_init_16 (by omega) g_us ?_
    exact r_return dJ37_init_19 rfl (⟨by rw [g_up_up, g_up_up], rfl⟩)
theorem k_linkLast {x : Nat} (hb : k_b K ≤ l) (s : lk K l m Q h) : g_Met K mJ6_linkLast 2 1 3 [.ref l, .ref x] h n (gV fun h' n' => lk K l (m + nI 1) (Q ++ [(n, .ref x)]) h' ∧ fl h h' l (Q ++ [(n, .ref x)]) ∧ n' = n + 1) gN := by
  refine g_Met.facts fun f1 f2 f3 => ?_
  obtain ⟨⟨x0, y0, e1, s1⟩, nd, s2, s3⟩ := s
  have ll := f2 _ _ e1
  have lq : ∀ z ∈ Q, z.1 < n := fun z hz => by obtain ⟨nx, q, e⟩ := s1.mem z hz; exact f2 _ _ e
  have nd' : ((Q ++ [(n, Value.ref x)]).map Prod.fst).Nodup := by
    rw [List.map_append, List.nodup_append]
    exact ⟨nd, by simp, fun a ha b hb => by
      obtain ⟨z, hz, rfl⟩ := List.mem_map.mp ha
      have := lq z hz
      simp at hb
      omega⟩
  have s2' : ∀ z ∈ Q ++ [(n, Value.ref x)], z.1 ≠ l ∧ k_b K ≤ z.1 := fun z hz => by
    rcases List.mem_append.mp hz with q | q
    · exact s2 z q
    · simp only [List.mem_singleton] at q; rw [q]; exact ⟨by show n ≠ l; omega, f1⟩
  have s3' : ∀ z ∈ Q ++ [(n, Value.ref x)], z.2 = .null ∨ ∃ a, z.2 = .ref a := fun z hz => by
    rcases List.mem_append.mp hz with q | q
    · exact s3 z q
    · simp only [List.mem_singleton] at q; rw [q]; exact Or.inr ⟨_, rfl⟩
  refine g_Met.of (M := mJ6_linkLast) (L := [some (.ref l), some (.ref x), none, none]) (by decide +kernel) (Nat.le_of_ble_eq_true rfl) rfl ?_
  by_cases hQ : Q = []
  · subst hQ
    obtain ⟨rfl, rfl⟩ := s1
    refine r_aload0 dJ6_linkLast_0 ?_
    refine f_J6_27_J6 dJ6_linkLast_1 (by first | assumption | exact g_us | (rw [g_un (by omega)]; assumption) | (rw [g_un (by omega)]; exact g_us) | (rw [g_un (by omega), g_un (by omega)]; assumption) | (rw [g_un (by omega), g_un (by omega)]; exact g_us) | (rw [g_un (by omega), g_un (by omega), g_un (by omega)]; assumption) | ((repeat (rw [g_un (by omega)])); first | exact g_us | assumption)) ?_
    refine r_astoreZ2 dJ6_linkLast_4 ?_
    refine n_J6_22 dJ6_linkLast_5 (by omega) (by omega) ?_
    refine r_dup dJ6_linkLast_8 ?_
    refine r_aloadZ2 dJ6_linkLast_9 ?_
    refine r_aload1 dJ6_linkLast_10 ?_
    refine r_null dJ6_linkLast_11 ?_
    refine r_callI (M' := mJ37_init) _ dJ6_linkLast_12 q2268 q2269 rfl rfl rfl (lw_all_tbl q2270) q173 (by exact pl_J37_init)  ((k_J37_init (t := n) f1 g_us (Or.inl rfl))) (by omega) (Nat.le_of_ble_eq_true rfl) (by omega) (by omega) rfl (Nat.le_of_ble_eq_true rfl) rfl (kV fun h12 n12 e12 => ?_) kN
    obtain ⟨rfl, rfl⟩ := e12
    refine r_astore3 dJ6_linkLast_15 ?_
    refine r_aload0 dJ6_linkLast_16 ?_
    refine r_aload3 dJ6_linkLast_17 ?_
    refine p_J6_27_J6 dJ6_linkLast_18 (by omega) (by rw [g_un (by omega), g_un (by omega)]; exact e1) ?_
    refine r_aloadZ2 dJ6_linkLast_21 ?_
    refine r_ifnonnullZ dJ6_linkLast_22 ?_
    refine r_aload0 dJ6_linkLast_25 ?_
    refine r_aload3 dJ6_linkLast_26 ?_
    refine p_J6_18_J6 dJ6_linkLast_27 (by omega) g_us ?_
    refine r_goto (tgt := 38) dJ6_linkLast_30 (by decide) ?_
    refine r_aload0 dJ6_linkLast_38 ?_
    refine r_dup dJ6_linkLast_39 ?_
    refine f_J6_7_J6 dJ6_linkLast_40 g_us ?_
    refine r_iconst (v := nI 1) dJ6_linkLast_43 (by decide) ?_
    refine r_iadd dJ6_linkLast_44 (by first | exact nI_add _ _ | rfl) ?_
    refine p_J6_7_J6 dJ6_linkLast_45 (by omega) g_us ?_
    refine r_aload0 dJ6_linkLast_48 ?_
    refine r_dup dJ6_linkLast_49 ?_
    refine f_J6_33_J6 dJ6_linkLast_50 g_us ?_
    refine r_iconst (v := nI 1) dJ6_linkLast_53 (by decide) ?_
    refine r_iadd dJ6_linkLast_54 (by first | exact nI_add _ _ | rfl) ?_
    refine p_J6_33_J6 dJ6_linkLast_55 (by omega) g_us ?_
    exact r_return dJ6_linkLast_58 rfl (⟨⟨⟨.ref n, .ref n, g_us, rfl, .null, by rw [g_un (by omega), g_un (by omega), g_un (by omega), g_un (by omega), g_us], rfl, rfl⟩, nd', s2', s3'⟩, fun z z1 z2 => by
          have z3 : z ≠ n := fun e => z2 (n, .ref x) (by simp) e.symm
          rw [g_un z1, g_un z1, g_un z1, g_un z1, g_un z3, g_un z3], rfl⟩)
  · obtain ⟨Q', b, u, rfl⟩ := snoc hQ
    obtain ⟨z, w, t1, rfl, nx, eb, t2, rfl⟩ := ds.app.mp s1
    subst t2
    have bl : b ≠ l := (s2 (b, u) (by simp)).1
    have bb : k_b K ≤ b := (s2 (b, u) (by simp)).2
    have bn : b < n := lq (b, u) (by simp)
    have nb := nd2 nd
    have hds : ∀ h' : g_P, (∀ z ∈ Q', h' z.1 = h z.1) → h' b = some (lN_ u (.ref n) w) → h' n = some (lN_ (.ref x) .null (.ref b)) → ds h' (Q' ++ [(b, u)] ++ [(n, Value.ref x)]) x0 .null .null (.ref n) := fun h' a1 a2 a3 =>
      ds.app.mpr ⟨.ref n, .ref b, ds.app.mpr ⟨.ref b, w, t1.keep a1, rfl, _, a2, rfl, rfl⟩, rfl, _, a3, rfl, rfl⟩
    have hlen : nI (Q' ++ [(b, u)] ++ [(n, Value.ref x)]).length = nI (Q' ++ [(b, u)]).length + nI 1 := by rw [nI_add]; simp
    refine r_aload0 dJ6_linkLast_0 ?_
    refine f_J6_27_J6 dJ6_linkLast_1 (by first | assumption | exact g_us | (rw [g_un (by omega)]; assumption) | (rw [g_un (by omega)]; exact g_us) | (rw [g_un (by omega), g_un (by omega)]; assumption) | (rw [g_un (by omega), g_un (by omega)]; exact g_us) | (rw [g_un (by omega), g_un (by omega), g_un (by omega)]; assumption) | ((repeat (rw [g_un (by omega)])); first | exact g_us | assumption)) ?_
    refine r_astore2 dJ6_linkLast_4 ?_
    refine n_J6_22 dJ6_linkLast_5 (by omega) (by omega) ?_
    refine r_dup dJ6_linkLast_8 ?_
    refine r_aload2 dJ6_linkLast_9 ?_
    refine r_aload1 dJ6_linkLast_10 ?_
    refine r_null dJ6_linkLast_11 ?_
    refine r_callI (M' := mJ37_init) _ dJ6_linkLast_12 q2268 q2269 rfl rfl rfl (lw_all_tbl q2270) q173 (by exact pl_J37_init)  ((k_J37_init (t := n) f1 g_us (Or.inr ⟨_, rfl⟩))) (by omega) (Nat.le_of_ble_eq_true rfl) (by omega) (by omega) rfl (Nat.le_of_ble_eq_true rfl) rfl (kV fun h12 n12 e12 => ?_) kN
    obtain ⟨rfl, rfl⟩ := e12
    refine r_astore3 dJ6_linkLast_15 ?_
    refine r_aload0 dJ6_linkLast_16 ?_
    refine r_aload3 dJ6_linkLast_17 ?_
    refine p_J6_27_J6 dJ6_linkLast_18 (by omega) (by rw [g_un (by omega), g_un (by omega)]; exact e1) ?_
    refine r_aload2 dJ6_linkLast_21 ?_
    refine r_ifnonnull (tgt := 33) dJ6_linkLast_22 (by decide) ?_
    refine r_aload2 dJ6_linkLast_33 ?_
    refine r_aload3 dJ6_linkLast_34 ?_
    refine p_J6_36_J37 dJ6_linkLast_35 (by omega) (by rw [g_un bl, g_un (by omega), g_un (by omega)]; exact eb) ?_
    refine r_aload0 dJ6_linkLast_38 ?_
    refine r_dup dJ6_linkLast_39 ?_
    refine f_J6_7_J6 dJ6_linkLast_40 (by rw [g_un (Ne.symm bl), g_us]) ?_
    refine r_iconst (v := nI 1) dJ6_linkLast_43 (by decide) ?_
    refine r_iadd dJ6_linkLast_44 (by first | exact nI_add _ _ | rfl) ?_
    refine p_J6_7_J6 dJ6_linkLast_45 (by omega) (by rw [g_un (Ne.symm bl), g_us]) ?_
    refine r_aload0 dJ6_linkLast_48 ?_
    refine r_dup dJ6_linkLast_49 ?_
    refine f_J6_33_J6 dJ6_linkLast_50 g_us ?_
    refine r_iconst (v := nI 1) dJ6_linkLast_53 (by decide) ?_
    refine r_iadd dJ6_linkLast_54 (by first | exact nI_add _ _ | rfl) ?_
    refine p_J6_33_J6 dJ6_linkLast_55 (by omega) g_us ?_
    exact r_return dJ6_linkLast_58 rfl (⟨⟨⟨x0, .ref n, by rw [g_us, hlen, nI_add], hds _ (fun z hz => by have z1 := (s2 z (by simp [hz])).1; have z2 := lq z (by simp [hz]); rw [g_un z1, g_un z1, g_un (nb z hz), g_un z1, g_un (by omega), g_un (by omega)]) (by rw [g_un bl, g_un bl, g_us]) (by rw [g_un (by omega), g_un (by omega), g_un (by omega), g_un (by omega), g_us])⟩, nd', s2', s3'⟩, fun z z1 z2 => by
          have z3 : z ≠ n := fun e => z2 (n, .ref x) (by simp) e.symm
          have z4 : z ≠ b := fun e => z2 (b, u) (by simp) e.symm
          rw [g_un z1, g_un z1, g_un z4, g_un z1, g_un z3, g_un z3], rfl⟩)
theorem k_addLast {x : Nat} (hb : k_b K ≤ l) (s : lk K l m Q h) : g_Met K mJ6_addLast 3 1 3 [.ref l, .ref x] h n (gV fun h' n' => lk K l (m + nI 1) (Q ++ [(n, .ref x)]) h' ∧ fl h h' l (Q ++ [(n, .ref x)]) ∧ n' = n + 1) gN := by
  have e0 := s.1
  obtain ⟨x0, y0, e1, -⟩ := e0
  refine g_Met.of (M := mJ6_addLast) (L := [some (.ref l), some (.ref x)]) (by decide +kernel) (Nat.le_of_ble_eq_true rfl) rfl ?_
  refine r_aload0 dJ6_addLast_0 ?_
  refine r_aload1 dJ6_addLast_1 ?_
  refine r_callV (M' := mJ6_linkLast) _ dJ6_addLast_2 q2262 q2263 q2264 rfl (lw_all_tbl q2265) q133 (by exact pl_J6_linkLast) gc_J6 (by first | assumption | exact g_us | (rw [g_un (by omega)]; assumption) | (rw [g_un (by omega)]; exact g_us) | (rw [g_un (by omega), g_un (by omega)]; assumption) | (rw [g_un (by omega), g_un (by omega)]; exact g_us) | (rw [g_un (by omega), g_un (by omega), g_un (by omega)]; assumption) | ((repeat (rw [g_un (by omega)])); first | exact g_us | assumption)) ((k_linkLast hb s)) (by omega) (Nat.le_of_ble_eq_true rfl) (by omega) (by omega) rfl (Nat.le_of_ble_eq_true rfl) rfl (kV fun h2 n2 e2 => ?_) kN
  obtain ⟨e2, e2a, rfl⟩ := e2
  exact r_return dJ6_addLast_5 rfl (⟨e2, e2a, rfl⟩)
theorem k_J6_add {x : Nat} (hb : k_b K ≤ l) (s : lk K l m Q h) : g_Met K mJ6_add 3 1 3 [.ref l, .ref x] h n (gI fun r h' n' => lk K l (m + nI 1) (Q ++ [(n, .ref x)]) h' ∧ fl h h' l (Q ++ [(n, .ref x)]) ∧ n' = n + 1) gN := by
  have e0 := s.1
  obtain ⟨x0, y0, e1, -⟩ := e0
  refine g_Met.of (M := mJ6_add) (L := [some (.ref l), some (.ref x)]) (by decide +kernel) (Nat.le_of_ble_eq_true rfl) rfl ?_
  refine r_aload0 dJ6_add_0 ?_
  refine r_aload1 dJ6_add_1 ?_
  refine r_callV (M' := mJ6_linkLast) _ dJ6_add_2 q2262 q2263 q2264 rfl (lw_all_tbl q2265) q133 (by exact pl_J6_linkLast) gc_J6 (by first | assumption | exact g_us | (rw [g_un (by omega)]; assumption) | (rw [g_un (by omega)]; exact g_us) | (rw [g_un (by omega), g_un (by omega)]; assumption) | (rw [g_un (by omega), g_un (by omega)]; exact g_us) | (rw [g_un (by omega), g_un (by omega), g_un (by omega)]; assumption) | ((repeat (rw [g_un (by omega)])); first | exact g_us | assumption)) ((k_linkLast hb s)) (by omega) (Nat.le_of_ble_eq_true rfl) (by omega) (by omega) rfl (Nat.le_of_ble_eq_true rfl) rfl (kV fun h2 n2 e2 => ?_) kN
  obtain ⟨e2, e2a, rfl⟩ := e2
  refine r_iconst (v := nI 1) dJ6_add_5 (by decide) ?_
  exact r_ireturn dJ6_add_6 rfl (by first | exact nB_nar | rfl) (⟨e2, e2a, rfl⟩)
end
