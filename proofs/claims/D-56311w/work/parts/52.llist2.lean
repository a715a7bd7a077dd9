/-! LinkedList: removals, its iterator -/
set_option maxRecDepth 100000
section
variable {K : g_K} {l n : Nat} {m : Int32} {Q : List (Nat × Value)} {h : g_P}
theorem k_unlinkFirst {a : Nat} {v : Value} (hb : k_b K ≤ l) (s : lk K l m ((a, v) :: Q) h) : g_Met K mJ6_unlinkFirst 0 0 0 [.ref l, .ref a] h n (gA fun r h' n' => r = v ∧ lk K l (m + nI 1) Q h' ∧ fl h h' l ((a, v) :: Q) ∧ n' = n) gN := by
  obtain ⟨⟨x0, y0, e1, rfl, nx, ea, s1⟩, nd, s2, s3⟩ := s
  have al : a ≠ l := (s2 (a, v) (by simp)).1
  have ba : k_b K ≤ a := (s2 (a, v) (by simp)).2
  have na := nd1 nd
  have hlen : nI ((a, v) :: Q).length - nI 1 = nI Q.length := by rw [pk_sub (by simp)]; simp
  have s2' : ∀ z ∈ Q, z.1 ≠ l ∧ k_b K ≤ z.1 := fun z hz => s2 z (by simp [hz])
  have s3' : ∀ z ∈ Q, z.2 = .null ∨ ∃ a, z.2 = .ref a := fun z hz => s3 z (by simp [hz])
  have ndQ : (Q.map Prod.fst).Nodup := (List.nodup_cons.mp nd).2
  have hv : v = .null ∨ ∃ a, v = .ref a := s3 (a, v) (by simp)
  refine g_Met.of (M := mJ6_unlinkFirst) (L := [some (.ref l), some (.ref a), none, none]) (by decide +kernel) (Nat.le_of_ble_eq_true rfl) rfl ?_
  cases Q with
  | nil =>
    obtain ⟨rfl, rfl⟩ := s1
    rcases hv with rfl | ⟨vv, rfl⟩
    · skip
      refine r_aload1 dJ6_unlinkFirst_0 ?_
      refine f_J6_39_J37 dJ6_unlinkFirst_1 (by first | assumption | exact g_us | (rw [g_un (by omega)]; assumption) | (rw [g_un (by omega)]; exact g_us) | (rw [g_un (by omega), g_un (by omega)]; assumption) | (rw [g_un (by omega), g_un (by omega)]; exact g_us) | (rw [g_un (by omega), g_un (by omega), g_un (by omega)]; assumption) | ((repeat (rw [g_un (by omega)])); first | exact g_us | assumption)) ?_
      refine r_astoreZ2 dJ6_unlinkFirst_4 ?_
      refine r_aload1 dJ6_unlinkFirst_5 ?_
      refine f_J6_36_J37 dJ6_unlinkFirst_6 (by first | assumption | exact g_us | (rw [g_un (by omega)]; assumption) | (rw [g_un (by omega)]; exact g_us) | (rw [g_un (by omega), g_un (by omega)]; assumption) | (rw [g_un (by omega), g_un (by omega)]; exact g_us) | (rw [g_un (by omega), g_un (by omega), g_un (by omega)]; assumption) | ((repeat (rw [g_un (by omega)])); first | exact g_us | assumption)) ?_
      refine r_astoreZ3 dJ6_unlinkFirst_9 ?_
      refine r_aload1 dJ6_unlinkFirst_10 ?_
      refine r_null dJ6_unlinkFirst_11 ?_
      refine p_J6_39_J37 dJ6_unlinkFirst_12 (by omega) ea ?_
      refine r_aload1 dJ6_unlinkFirst_15 ?_
      refine r_null dJ6_unlinkFirst_16 ?_
      refine p_J6_36_J37 dJ6_unlinkFirst_17 (by omega) g_us ?_
      refine r_aload0 dJ6_unlinkFirst_20 ?_
      refine r_aloadZ3 dJ6_unlinkFirst_21 ?_
      refine p_J6_18_J6 dJ6_unlinkFirst_22 (by omega) (by rw [g_un (Ne.symm al), g_un (Ne.symm al)]; exact e1) ?_
      refine r_aloadZ3 dJ6_unlinkFirst_25 ?_
      refine r_ifnonnullZ dJ6_unlinkFirst_26 ?_
      refine r_aload0 dJ6_unlinkFirst_29 ?_
      refine r_null dJ6_unlinkFirst_30 ?_
      refine p_J6_27_J6 dJ6_unlinkFirst_31 (by omega) g_us ?_
      refine r_goto (tgt := 42) dJ6_unlinkFirst_34 (by decide) ?_
      refine r_aload0 dJ6_unlinkFirst_42 ?_
      refine r_dup dJ6_unlinkFirst_43 ?_
      refine f_J6_7_J6 dJ6_unlinkFirst_44 g_us ?_
      refine r_iconst (v := nI 1) dJ6_unlinkFirst_47 (by decide) ?_
      refine r_isub dJ6_unlinkFirst_48 (by first | exact pk_sub (by omega) | rfl) ?_
      refine p_J6_7_J6 dJ6_unlinkFirst_49 (by omega) g_us ?_
      refine r_aload0 dJ6_unlinkFirst_52 ?_
      refine r_dup dJ6_unlinkFirst_53 ?_
      refine f_J6_33_J6 dJ6_unlinkFirst_54 g_us ?_
      refine r_iconst (v := nI 1) dJ6_unlinkFirst_57 (by decide) ?_
      refine r_iadd dJ6_unlinkFirst_58 (by first | exact nI_add _ _ | rfl) ?_
      refine p_J6_33_J6 dJ6_unlinkFirst_59 (by omega) g_us ?_
      refine r_aloadZ2 dJ6_unlinkFirst_62 ?_
      exact r_areturn dJ6_unlinkFirst_63 rfl (Or.inl ⟨_, rfl⟩) (Or.inl rfl) (⟨rfl, ⟨⟨.null, .null, by rw [g_us, ← hlen], rfl, rfl⟩, ndQ, s2', s3'⟩, fun z z1 z2 => by
            have z3 : z ≠ a := fun e => z2 (a, .null) (by simp) e.symm
            rw [g_un z1, g_un z1, g_un z1, g_un z1, g_un z3, g_un z3], rfl⟩)
    · skip
      refine r_aload1 dJ6_unlinkFirst_0 ?_
      refine f_J6_39_J37 dJ6_unlinkFirst_1 (by first | assumption | exact g_us | (rw [g_un (by omega)]; assumption) | (rw [g_un (by omega)]; exact g_us) | (rw [g_un (by omega), g_un (by omega)]; assumption) | (rw [g_un (by omega), g_un (by omega)]; exact g_us) | (rw [g_un (by omega), g_un (by omega), g_un (by omega)]; assumption) | ((repeat (rw [g_un (by omega)])); first | exact g_us | assumption)) ?_
      refine r_astore2 dJ6_unlinkFirst_4 ?_
      refine r_aload1 dJ6_unlinkFirst_5 ?_
      refine f_J6_36_J37 dJ6_unlinkFirst_6 (by first | assumption | exact g_us | (rw [g_un (by omega)]; assumption) | (rw [g_un (by omega)]; exact g_us) | (rw [g_un (by omega), g_un (by omega)]; assumption) | (rw [g_un (by omega), g_un (by omega)]; exact g_us) | (rw [g_un (by omega), g_un (by omega), g_un (by omega)]; assumption) | ((repeat (rw [g_un (by omega)])); first | exact g_us | assumption)) ?_
      refine r_astoreZ3 dJ6_unlinkFirst_9 ?_
      refine r_aload1 dJ6_unlinkFirst_10 ?_
      refine r_null dJ6_unlinkFirst_11 ?_
      refine p_J6_39_J37 dJ6_unlinkFirst_12 (by omega) ea ?_
      refine r_aload1 dJ6_unlinkFirst_15 ?_
      refine r_null dJ6_unlinkFirst_16 ?_
      refine p_J6_36_J37 dJ6_unlinkFirst_17 (by omega) g_us ?_
      refine r_aload0 dJ6_unlinkFirst_20 ?_
      refine r_aloadZ3 dJ6_unlinkFirst_21 ?_
      refine p_J6_18_J6 dJ6_unlinkFirst_22 (by omega) (by rw [g_un (Ne.symm al), g_un (Ne.symm al)]; exact e1) ?_
      refine r_aloadZ3 dJ6_unlinkFirst_25 ?_
      refine r_ifnonnullZ dJ6_unlinkFirst_26 ?_
      refine r_aload0 dJ6_unlinkFirst_29 ?_
      refine r_null dJ6_unlinkFirst_30 ?_
      refine p_J6_27_J6 dJ6_unlinkFirst_31 (by omega) g_us ?_
      refine r_goto (tgt := 42) dJ6_unlinkFirst_34 (by decide) ?_
      refine r_aload0 dJ6_unlinkFirst_42 ?_
      refine r_dup dJ6_unlinkFirst_43 ?_
      refine f_J6_7_J6 dJ6_unlinkFirst_44 g_us ?_
      refine r_iconst (v := nI 1) dJ6_unlinkFirst_47 (by decide) ?_
      refine r_isub dJ6_unlinkFirst_48 (by first | exact pk_sub (by omega) | rfl) ?_
      refine p_J6_7_J6 dJ6_unlinkFirst_49 (by omega) g_us ?_
      refine r_aload0 dJ6_unlinkFirst_52 ?_
      refine r_dup dJ6_unlinkFirst_53 ?_
      refine f_J6_33_J6 dJ6_unlinkFirst_54 g_us ?_
      refine r_iconst (v := nI 1) dJ6_unlinkFirst_57 (by decide) ?_
      refine r_iadd dJ6_unlinkFirst_58 (by first | exact nI_add _ _ | rfl) ?_
      refine p_J6_33_J6 dJ6_unlinkFirst_59 (by omega) g_us ?_
      refine r_aload2 dJ6_unlinkFirst_62 ?_
      exact r_areturn dJ6_unlinkFirst_63 rfl (Or.inl ⟨_, rfl⟩) (Or.inr ⟨_, rfl⟩) (⟨rfl, ⟨⟨.null, .null, by rw [g_us, ← hlen], rfl, rfl⟩, ndQ, s2', s3'⟩, fun z z1 z2 => by
            have z3 : z ≠ a := fun e => z2 (a, .ref vv) (by simp) e.symm
            rw [g_un z1, g_un z1, g_un z1, g_un z1, g_un z3, g_un z3], rfl⟩)
  | cons q Q =>
    obtain ⟨b, u⟩ := q
    have s10 := s1
    obtain ⟨rfl, nx2, eb, -⟩ := s1
    have bl : b ≠ l := (s2' (b, u) (by simp)).1
    have bb : k_b K ≤ b := (s2' (b, u) (by simp)).2
    have ba2 : b ≠ a := na (b, u) (by simp)
    rcases hv with rfl | ⟨vv, rfl⟩
    · skip
      refine r_aload1 dJ6_unlinkFirst_0 ?_
      refine f_J6_39_J37 dJ6_unlinkFirst_1 (by first | assumption | exact g_us | (rw [g_un (by omega)]; assumption) | (rw [g_un (by omega)]; exact g_us) | (rw [g_un (by omega), g_un (by omega)]; assumption) | (rw [g_un (by omega), g_un (by omega)]; exact g_us) | (rw [g_un (by omega), g_un (by omega), g_un (by omega)]; assumption) | ((repeat (rw [g_un (by omega)])); first | exact g_us | assumption)) ?_
      refine r_astoreZ2 dJ6_unlinkFirst_4 ?_
      refine r_aload1 dJ6_unlinkFirst_5 ?_
      refine f_J6_36_J37 dJ6_unlinkFirst_6 (by first | assumption | exact g_us | (rw [g_un (by omega)]; assumption) | (rw [g_un (by omega)]; exact g_us) | (rw [g_un (by omega), g_un (by omega)]; assumption) | (rw [g_un (by omega), g_un (by omega)]; exact g_us) | (rw [g_un (by omega), g_un (by omega), g_un (by omega)]; assumption) | ((repeat (rw [g_un (by omega)])); first | exact g_us | assumption)) ?_
      refine r_astore3 dJ6_unlinkFirst_9 ?_
      refine r_aload1 dJ6_unlinkFirst_10 ?_
      refine r_null dJ6_unlinkFirst_11 ?_
      refine p_J6_39_J37 dJ6_unlinkFirst_12 (by omega) ea ?_
      refine r_aload1 dJ6_unlinkFirst_15 ?_
      refine r_null dJ6_unlinkFirst_16 ?_
      refine p_J6_36_J37 dJ6_unlinkFirst_17 (by omega) g_us ?_
      refine r_aload0 dJ6_unlinkFirst_20 ?_
      refine r_aload3 dJ6_unlinkFirst_21 ?_
      refine p_J6_18_J6 dJ6_unlinkFirst_22 (by omega) (by rw [g_un (Ne.symm al), g_un (Ne.symm al)]; exact e1) ?_
      refine r_aload3 dJ6_unlinkFirst_25 ?_
      refine r_ifnonnull (tgt := 37) dJ6_unlinkFirst_26 (by decide) ?_
      refine r_aload3 dJ6_unlinkFirst_37 ?_
      refine r_null dJ6_unlinkFirst_38 ?_
      refine p_J6_30_J37 dJ6_unlinkFirst_39 (by omega) (by rw [g_un bl, g_un ba2, g_un ba2]; exact eb) ?_
      refine r_aload0 dJ6_unlinkFirst_42 ?_
      refine r_dup dJ6_unlinkFirst_43 ?_
      refine f_J6_7_J6 dJ6_unlinkFirst_44 (by rw [g_un (Ne.symm bl), g_us]) ?_
      refine r_iconst (v := nI 1) dJ6_unlinkFirst_47 (by decide) ?_
      refine r_isub dJ6_unlinkFirst_48 (by first | exact pk_sub (by omega) | rfl) ?_
      refine p_J6_7_J6 dJ6_unlinkFirst_49 (by omega) (by rw [g_un (Ne.symm bl), g_us]) ?_
      refine r_aload0 dJ6_unlinkFirst_52 ?_
      refine r_dup dJ6_unlinkFirst_53 ?_
      refine f_J6_33_J6 dJ6_unlinkFirst_54 g_us ?_
      refine r_iconst (v := nI 1) dJ6_unlinkFirst_57 (by decide) ?_
      refine r_iadd dJ6_unlinkFirst_58 (by first | exact nI_add _ _ | rfl) ?_
      refine p_J6_33_J6 dJ6_unlinkFirst_59 (by omega) g_us ?_
      refine r_aloadZ2 dJ6_unlinkFirst_62 ?_
      exact r_areturn dJ6_unlinkFirst_63 rfl (Or.inl ⟨_, rfl⟩) (Or.inl rfl) (⟨rfl, ⟨⟨.ref b, y0, by rw [g_us]; rw [← hlen], s10.prev ndQ (fun nx3 e3 => by rw [g_un bl, g_un bl, g_us]; rw [eb] at e3; cases e3; rfl) (fun z hz => by rw [g_un (s2' z (by simp [hz])).1, g_un (s2' z (by simp [hz])).1, g_un (nd1 ndQ z hz), g_un (s2' z (by simp [hz])).1, g_un (na z (by simp [hz])), g_un (na z (by simp [hz]))])⟩, ndQ, s2', s3'⟩, fun z z1 z2 => by
            have z3 : z ≠ a := fun e => z2 (a, .null) (by simp) e.symm
            have z4 : z ≠ b := fun e => z2 (b, u) (by simp) e.symm
            rw [g_un z1, g_un z1, g_un z4, g_un z1, g_un z3, g_un z3], rfl⟩)
    · skip
      refine r_aload1 dJ6_unlinkFirst_0 ?_
      refine f_J6_39_J37 dJ6_unlinkFirst_1 (by first | assumption | exact g_us | (rw [g_un (by omega)]; assumption) | (rw [g_un (by omega)]; exact g_us) | (rw [g_un (by omega), g_un (by omega)]; assumption) | (rw [g_un (by omega), g_un (by omega)]; exact g_us) | (rw [g_un (by omega), g_un (by omega), g_un (by omega)]; assumption) | ((repeat (rw [g_un (by omega)])); first | exact g_us | assumption)) ?_
      refine r_astore2 dJ6_unlinkFirst_4 ?_
      refine r_aload1 dJ6_unlinkFirst_5 ?_
      refine f_J6_36_J37 dJ6_unlinkFirst_6 (by first | assumption | exact g_us | (rw [g_un (by omega)]; assumption) | (rw [g_un (by omega)]; exact g_us) | (rw [g_un (by omega), g_un (by omega)]; assumption) | (rw [g_un (by omega), g_un (by omega)]; exact g_us) | (rw [g_un (by omega), g_un (by omega), g_un (by omega)]; assumption) | ((repeat (rw [g_un (by omega)])); first | exact g_us | assumption)) ?_
      refine r_astore3 dJ6_unlinkFirst_9 ?_
      refine r_aload1 dJ6_unlinkFirst_10 ?_
      refine r_null dJ6_unlinkFirst_11 ?_
      refine p_J6_39_J37 dJ6_unlinkFirst_12 (by omega) ea ?_
      refine r_aload1 dJ6_unlinkFirst_15 ?_
      refine r_null dJ6_unlinkFirst_16 ?_
      refine p_J6_36_J37 dJ6_unlinkFirst_17 (by omega) g_us ?_
      refine r_aload0 dJ6_unlinkFirst_20 ?_
      refine r_aload3 dJ6_unlinkFirst_21 ?_
      refine p_J6_18_J6 dJ6_unlinkFirst_22 (by omega) (by rw [g_un (Ne.symm al), g_un (Ne.symm al)]; exact e1) ?_
      refine r_aload3 dJ6_unlinkFirst_25 ?_
      refine r_ifnonnull (tgt := 37) dJ6_unlinkFirst_26 (by decide) ?_
      refine r_aload3 dJ6_unlinkFirst_37 ?_
      refine r_null dJ6_unlinkFirst_38 ?_
      refine p_J6_30_J37 dJ6_unlinkFirst_39 (by omega) (by rw [g_un bl, g_un ba2, g_un ba2]; exact eb) ?_
      refine r_aload0 dJ6_unlinkFirst_42 ?_
      refine r_dup dJ6_unlinkFirst_43 ?_
      refine f_J6_7_J6 dJ6_unlinkFirst_44 (by rw [g_un (Ne.symm bl), g_us]) ?_
      refine r_iconst (v := nI 1) dJ6_unlinkFirst_47 (by decide) ?_
      refine r_isub dJ6_unlinkFirst_48 (by first | exact pk_sub (by omega) | rfl) ?_
      refine p_J6_7_J6 dJ6_unlinkFirst_49 (by omega) (by rw [g_un (Ne.symm bl), g_us]) ?_
      refine r_aload0 dJ6_unlinkFirst_52 ?_
      refine r_dup dJ6_unlinkFirst_53 ?_
      refine f_J6_33_J6 dJ6_unlinkFirst_54 g_us ?_
      refine r_iconst (v := nI 1) dJ6_unlinkFirst_57 (by decide) ?_
      refine r_iadd dJ6_unlinkFirst_58 (by first | exact nI_add _ _ | rfl) ?_
      refine p_J6_33_J6 dJ6_unlinkFirst_59 (by omega) g_us ?_
      refine r_aload2 dJ6_unlinkFirst_62 ?_
      exact r_areturn dJ6_unlinkFirst_63 rfl (Or.inl ⟨_, rfl⟩) (Or.inr ⟨_, rfl⟩) (⟨rfl, ⟨⟨.ref b, y0, by rw [g_us]; rw [← hlen], s10.prev ndQ (fun nx3 e3 => by rw [g_un bl, g_un bl, g_us]; rw [eb] at e3; cases e3; rfl) (fun z hz => by rw [g_un (s2' z (by simp [hz])).1, g_un (s2' z (by simp [hz])).1, g_un (nd1 ndQ z hz), g_un (s2' z (by simp [hz])).1, g_un (na z (by simp [hz])), g_un (na z (by simp [hz]))])⟩, ndQ, s2', s3'⟩, fun z z1 z2 => by
            have z3 : z ≠ a := fun e => z2 (a, .ref vv) (by simp) e.symm
            have z4 : z ≠ b := fun e => z2 (b, u) (by simp) e.symm
            rw [g_un z1, g_un z1, g_un z4, g_un z1, g_un z3, g_un z3], rfl⟩)
theorem k_removeFirst {a : Nat} {v : Value} (hb : k_b K ≤ l) (s : lk K l m ((a, v) :: Q) h) : g_Met K mJ6_removeFirst 1 0 0 [.ref l] h n (gA fun r h' n' => r = v ∧ lk K l (m + nI 1) Q h' ∧ fl h h' l ((a, v) :: Q) ∧ n' = n) gN := by
  have s0 := s
  have hv : v = .null ∨ ∃ a, v = .ref a := s.2.2.2 (a, v) (by simp)
  obtain ⟨⟨x0, y0, e1, rfl, nx, ea, s1⟩, -⟩ := s
  refine g_Met.of (M := mJ6_removeFirst) (L := [some (.ref l), none]) (by decide +kernel) (Nat.le_of_ble_eq_true rfl) rfl ?_
  refine r_aload0 dJ6_removeFirst_0 ?_
  refine f_J6_18_J6 dJ6_removeFirst_1 (by first | assumption | exact g_us | (rw [g_un (by omega)]; assumption) | (rw [g_un (by omega)]; exact g_us) | (rw [g_un (by omega), g_un (by omega)]; assumption) | (rw [g_un (by omega), g_un (by omega)]; exact g_us) | (rw [g_un (by omega), g_un (by omega), g_un (by omega)]; assumption) | ((repeat (rw [g_un (by omega)])); first | exact g_us | assumption)) ?_
  refine r_astore1 dJ6_removeFirst_4 ?_
  refine r_aload1 dJ6_removeFirst_5 ?_
  refine r_ifnonnull (tgt := 17) dJ6_removeFirst_6 (by decide) ?_
  refine r_aload0 dJ6_removeFirst_17 ?_
  refine r_aload1 dJ6_removeFirst_18 ?_
  refine r_callV (M' := mJ6_unlinkFirst) _ dJ6_removeFirst_19 q2328 q2330 qs36 rfl (lw_all_tbl q2331) q133 (by exact pl_J6_unlinkFirst) gc_J6 (by first | assumption | exact g_us | (rw [g_un (by omega)]; assumption) | (rw [g_un (by omega)]; exact g_us) | (rw [g_un (by omega), g_un (by omega)]; assumption) | (rw [g_un (by omega), g_un (by omega)]; exact g_us) | (rw [g_un (by omega), g_un (by omega), g_un (by omega)]; assumption) | ((repeat (rw [g_un (by omega)])); first | exact g_us | assumption)) ((k_unlinkFirst hb s0)) (by omega) (Nat.le_of_ble_eq_true rfl) (by omega) (by omega) rfl (Nat.le_of_ble_eq_true rfl) rfl (kA fun r19 h19 n19 t19 e19 => ?_) kN
  obtain ⟨rfl, e19, e19b, rfl⟩ := e19
  exact r_areturn dJ6_removeFirst_22 rfl (Or.inl ⟨_, rfl⟩) hv (⟨rfl, e19, e19b, rfl⟩)
theorem k_unlinkLast {a v : Nat} (hb : k_b K ≤ l) (s : lk K l m (Q ++ [(a, .ref v)]) h) : g_Met K mJ6_unlinkLast 0 0 0 [.ref l, .ref a] h n (gA fun r h' n' => r = .ref v ∧ lk K l (m + nI 1) Q h' ∧ fl h h' l (Q ++ [(a, .ref v)]) ∧ n' = n) gN := by
  obtain ⟨⟨x0, y0, e1, s1⟩, nd, s2, s3⟩ := s
  obtain ⟨z0, w, t1, rfl, nx, ea, t2, rfl⟩ := ds.app.mp s1
  subst t2
  have al : a ≠ l := (s2 (a, .ref v) (by simp)).1
  have ba : k_b K ≤ a := (s2 (a, .ref v) (by simp)).2
  have na := nd2 nd
  have hlen : nI (Q ++ [(a, Value.ref v)]).length - nI 1 = nI Q.length := by rw [pk_sub (by simp)]; simp
  have s2' : ∀ z ∈ Q, z.1 ≠ l ∧ k_b K ≤ z.1 := fun z hz => s2 z (by simp [hz])
  have s3' : ∀ z ∈ Q, z.2 = .null ∨ ∃ a, z.2 = .ref a := fun z hz => s3 z (by simp [hz])
  have ndQ : (Q.map Prod.fst).Nodup := by rw [List.map_append, List.nodup_append] at nd; exact nd.1
  refine g_Met.of (M := mJ6_unlinkLast) (L := [some (.ref l), some (.ref a), none, none]) (by decide +kernel) (Nat.le_of_ble_eq_true rfl) rfl ?_
  by_cases hQ : Q = []
  · subst hQ
    obtain ⟨rfl, rfl⟩ := t1
    refine r_aload1 dJ6_unlinkLast_0 ?_
    refine f_J6_39_J37 dJ6_unlinkLast_1 (by first | assumption | exact g_us | (rw [g_un (by omega)]; assumption) | (rw [g_un (by omega)]; exact g_us) | (rw [g_un (by omega), g_un (by omega)]; assumption) | (rw [g_un (by omega), g_un (by omega)]; exact g_us) | (rw [g_un (by omega), g_un (by omega), g_un (by omega)]; assumption) | ((repeat (rw [g_un (by omega)])); first | exact g_us | assumption)) ?_
    refine r_astore2 dJ6_unlinkLast_4 ?_
    refine r_aload1 dJ6_unlinkLast_5 ?_
    refine f_J6_30_J37 dJ6_unlinkLast_6 (by first | assumption | exact g_us | (rw [g_un (by omega)]; assumption) | (rw [g_un (by omega)]; exact g_us) | (rw [g_un (by omega), g_un (by omega)]; assumption) | (rw [g_un (by omega), g_un (by omega)]; exact g_us) | (rw [g_un (by omega), g_un (by omega), g_un (by omega)]; assumption) | ((repeat (rw [g_un (by omega)])); first | exact g_us | assumption)) ?_
    refine r_astoreZ3 dJ6_unlinkLast_9 ?_
    refine r_aload1 dJ6_unlinkLast_10 ?_
    refine r_null dJ6_unlinkLast_11 ?_
    refine p_J6_39_J37 dJ6_unlinkLast_12 (by omega) ea ?_
    refine r_aload1 dJ6_unlinkLast_15 ?_
    refine r_null dJ6_unlinkLast_16 ?_
    refine p_J6_30_J37 dJ6_unlinkLast_17 (by omega) g_us ?_
    refine r_aload0 dJ6_unlinkLast_20 ?_
    refine r_aloadZ3 dJ6_unlinkLast_21 ?_
    refine p_J6_27_J6 dJ6_unlinkLast_22 (by omega) (by rw [g_un (Ne.symm al), g_un (Ne.symm al)]; exact e1) ?_
    refine r_aloadZ3 dJ6_unlinkLast_25 ?_
    refine r_ifnonnullZ dJ6_unlinkLast_26 ?_
    refine r_aload0 dJ6_unlinkLast_29 ?_
    refine r_null dJ6_unlinkLast_30 ?_
    refine p_J6_18_J6 dJ6_unlinkLast_31 (by omega) g_us ?_
    refine r_goto (tgt := 42) dJ6_unlinkLast_34 (by decide) ?_
    refine r_aload0 dJ6_unlinkLast_42 ?_
    refine r_dup dJ6_unlinkLast_43 ?_
    refine f_J6_7_J6 dJ6_unlinkLast_44 g_us ?_
    refine r_iconst (v := nI 1) dJ6_unlinkLast_47 (by decide) ?_
    refine r_isub dJ6_unlinkLast_48 (by first | exact pk_sub (by omega) | rfl) ?_
    refine p_J6_7_J6 dJ6_unlinkLast_49 (by omega) g_us ?_
    refine r_aload0 dJ6_unlinkLast_52 ?_
    refine r_dup dJ6_unlinkLast_53 ?_
    refine f_J6_33_J6 dJ6_unlinkLast_54 g_us ?_
    refine r_iconst (v := nI 1) dJ6_unlinkLast_57 (by decide) ?_
    refine r_iadd dJ6_unlinkLast_58 (by first | exact nI_add _ _ | rfl) ?_
    refine p_J6_33_J6 dJ6_unlinkLast_59 (by omega) g_us ?_
    refine r_aload2 dJ6_unlinkLast_62 ?_
    exact r_areturn dJ6_unlinkLast_63 rfl (Or.inl ⟨_, rfl⟩) (Or.inr ⟨_, rfl⟩) (⟨rfl, ⟨⟨.null, .null, by rw [g_us, ← hlen], rfl, rfl⟩, ndQ, s2', s3'⟩, fun z z1 z2 => by
          have z3 : z ≠ a := fun e => z2 (a, .ref v) (by simp) e.symm
          rw [g_un z1, g_un z1, g_un z1, g_un z1, g_un z3, g_un z3], rfl⟩)
  · obtain ⟨Q', b, u, rfl⟩ := snoc hQ
    obtain ⟨z, w2, t3, rfl, nx, eb, t4, rfl⟩ := ds.app.mp t1
    subst t4
    have bl : b ≠ l := (s2' (b, u) (by simp)).1
    have bb : k_b K ≤ b := (s2' (b, u) (by simp)).2
    have ba2 : b ≠ a := na (b, u) (by simp)
    have nb := nd2 ndQ
    refine r_aload1 dJ6_unlinkLast_0 ?_
    refine f_J6_39_J37 dJ6_unlinkLast_1 (by first | assumption | exact g_us | (rw [g_un (by omega)]; assumption) | (rw [g_un (by omega)]; exact g_us) | (rw [g_un (by omega), g_un (by omega)]; assumption) | (rw [g_un (by omega), g_un (by omega)]; exact g_us) | (rw [g_un (by omega), g_un (by omega), g_un (by omega)]; assumption) | ((repeat (rw [g_un (by omega)])); first | exact g_us | assumption)) ?_
    refine r_astore2 dJ6_unlinkLast_4 ?_
    refine r_aload1 dJ6_unlinkLast_5 ?_
    refine f_J6_30_J37 dJ6_unlinkLast_6 (by first | assumption | exact g_us | (rw [g_un (by omega)]; assumption) | (rw [g_un (by omega)]; exact g_us) | (rw [g_un (by omega), g_un (by omega)]; assumption) | (rw [g_un (by omega), g_un (by omega)]; exact g_us) | (rw [g_un (by omega), g_un (by omega), g_un (by omega)]; assumption) | ((repeat (rw [g_un (by omega)])); first | exact g_us | assumption)) ?_
    refine r_astore3 dJ6_unlinkLast_9 ?_
    refine r_aload1 dJ6_unlinkLast_10 ?_
    refine r_null dJ6_unlinkLast_11 ?_
    refine p_J6_39_J37 dJ6_unlinkLast_12 (by omega) ea ?_
    refine r_aload1 dJ6_unlinkLast_15 ?_
    refine r_null dJ6_unlinkLast_16 ?_
    refine p_J6_30_J37 dJ6_unlinkLast_17 (by omega) g_us ?_
    refine r_aload0 dJ6_unlinkLast_20 ?_
    refine r_aload3 dJ6_unlinkLast_21 ?_
    refine p_J6_27_J6 dJ6_unlinkLast_22 (by omega) (by rw [g_un (Ne.symm al), g_un (Ne.symm al)]; exact e1) ?_
    refine r_aload3 dJ6_unlinkLast_25 ?_
    refine r_ifnonnull (tgt := 37) dJ6_unlinkLast_26 (by decide) ?_
    refine r_aload3 dJ6_unlinkLast_37 ?_
    refine r_null dJ6_unlinkLast_38 ?_
    refine p_J6_36_J37 dJ6_unlinkLast_39 (by omega) (by rw [g_un bl, g_un ba2, g_un ba2]; exact eb) ?_
    refine r_aload0 dJ6_unlinkLast_42 ?_
    refine r_dup dJ6_unlinkLast_43 ?_
    refine f_J6_7_J6 dJ6_unlinkLast_44 (by rw [g_un (Ne.symm bl), g_us]) ?_
    refine r_iconst (v := nI 1) dJ6_unlinkLast_47 (by decide) ?_
    refine r_isub dJ6_unlinkLast_48 (by first | exact pk_sub (by omega) | rfl) ?_
    refine p_J6_7_J6 dJ6_unlinkLast_49 (by omega) (by rw [g_un (Ne.symm bl), g_us]) ?_
    refine r_aload0 dJ6_unlinkLast_52 ?_
    refine r_dup dJ6_unlinkLast_53 ?_
    refine f_J6_33_J6 dJ6_unlinkLast_54 g_us ?_
    refine r_iconst (v := nI 1) dJ6_unlinkLast_57 (by decide) ?_
    refine r_iadd dJ6_unlinkLast_58 (by first | exact nI_add _ _ | rfl) ?_
    refine p_J6_33_J6 dJ6_unlinkLast_59 (by omega) g_us ?_
    refine r_aload2 dJ6_unlinkLast_62 ?_
    exact r_areturn dJ6_unlinkLast_63 rfl (Or.inl ⟨_, rfl⟩) (Or.inr ⟨_, rfl⟩) (⟨rfl, ⟨⟨x0, .ref b, by rw [g_us]; rw [← hlen], ds.app.mpr ⟨.ref b, w2, t3.keep (fun z hz => by rw [g_un (s2' z (by simp [hz])).1, g_un (s2' z (by simp [hz])).1, g_un (nb z hz), g_un (s2' z (by simp [hz])).1, g_un (na z (by simp [hz])), g_un (na z (by simp [hz]))]), rfl, .null, by rw [g_un bl, g_un bl, g_us], rfl, rfl⟩⟩, ndQ, s2', s3'⟩, fun z z1 z2 => by
          have z3 : z ≠ a := fun e => z2 (a, .ref v) (by simp) e.symm
          have z4 : z ≠ b := fun e => z2 (b, u) (by simp) e.symm
          rw [g_un z1, g_un z1, g_un z4, g_un z1, g_un z3, g_un z3], rfl⟩)
theorem k_removeLast {a v : Nat} (hb : k_b K ≤ l) (s : lk K l m (Q ++ [(a, .ref v)]) h) : g_Met K mJ6_removeLast 1 0 0 [.ref l] h n (gA fun r h' n' => r = .ref v ∧ lk K l (m + nI 1) Q h' ∧ fl h h' l (Q ++ [(a, .ref v)]) ∧ n' = n) gN := by
  have s0 := s
  obtain ⟨⟨x0, y0, e1, s1⟩, -⟩ := s
  obtain ⟨z0, w, t1, rfl, nx, ea, t2, rfl⟩ := ds.app.mp s1
  refine g_Met.of (M := mJ6_removeLast) (L := [some (.ref l), none]) (by decide +kernel) (Nat.le_of_ble_eq_true rfl) rfl ?_
  refine r_aload0 dJ6_removeLast_0 ?_
  refine f_J6_27_J6 dJ6_removeLast_1 (by first | assumption | exact g_us | (rw [g_un (by omega)]; assumption) | (rw [g_un (by omega)]; exact g_us) | (rw [g_un (by omega), g_un (by omega)]; assumption) | (rw [g_un (by omega), g_un (by omega)]; exact g_us) | (rw [g_un (by omega), g_un (by omega), g_un (by omega)]; assumption) | ((repeat (rw [g_un (by omega)])); first | exact g_us | assumption)) ?_
  refine r_astore1 dJ6_removeLast_4 ?_
  refine r_aload1 dJ6_removeLast_5 ?_
  refine r_ifnonnull (tgt := 17) dJ6_removeLast_6 (by decide) ?_
  refine r_aload0 dJ6_removeLast_17 ?_
  refine r_aload1 dJ6_removeLast_18 ?_
  refine r_callV (M' := mJ6_unlinkLast) _ dJ6_removeLast_19 q3375 q3377 qs54 rfl (lw_all_tbl q3378) q133 (by exact pl_J6_unlinkLast) gc_J6 (by first | assumption | exact g_us | (rw [g_un (by omega)]; assumption) | (rw [g_un (by omega)]; exact g_us) | (rw [g_un (by omega), g_un (by omega)]; assumption) | (rw [g_un (by omega), g_un (by omega)]; exact g_us) | (rw [g_un (by omega), g_un (by omega), g_un (by omega)]; assumption) | ((repeat (rw [g_un (by omega)])); first | exact g_us | assumption)) ((k_unlinkLast hb s0)) (by omega) (Nat.le_of_ble_eq_true rfl) (by omega) (by omega) rfl (Nat.le_of_ble_eq_true rfl) rfl (kA fun r19 h19 n19 t19 e19 => ?_) kN
  obtain ⟨rfl, e19, e19b, rfl⟩ := e19
  exact r_areturn dJ6_removeLast_22 rfl (Or.inl ⟨_, rfl⟩) (Or.inr ⟨_, rfl⟩) (⟨rfl, e19, e19b, rfl⟩)
theorem k_J6_clear (hb : k_b K ≤ l) (s : lk K l m Q h) : g_Met K mJ6_clear 0 0 0 [.ref l] h n (gV fun h' n' => lk K l (m + nI 1) [] h' ∧ fl h h' l Q ∧ n' = n) gN := by
  obtain ⟨⟨x0, y0, e1, s1⟩, nd, s2, s3⟩ := s
  have loop : ∀ (R D : List (Nat × Value)) (x p : Value) (o2 : Option Value) (h1 : g_P), D ++ R = Q → ds h1 R x p .null y0 → h1 l = some (g_ob 19 [.int m, .int (nI Q.length), x0, y0]) → fl h h1 l Q → g_G K mJ6_clear 0 0 0 (gV fun h' n' => lk K l (m + nI 1) [] h' ∧ fl h h' l Q ∧ n' = n) gN 5 [some (.ref l), some x, o2] [] h1 n := by
    intro R
    induction R with
    | nil =>
      intro D x p o2 h1 eQ sR el f
      obtain ⟨rfl, -⟩ := sR
      refine r_aloadZ1 dJ6_clear_5 ?_
      refine r_ifnullZ (tgt := 34) dJ6_clear_6 (by decide) ?_
      refine r_aload0 dJ6_clear_34 ?_
      refine r_aload0 dJ6_clear_35 ?_
      refine r_null dJ6_clear_36 ?_
      refine r_dup_x1 dJ6_clear_37 ?_
      refine p_J6_27_J6 dJ6_clear_38 (by omega) el ?_
      refine p_J6_18_J6 dJ6_clear_41 (by omega) g_us ?_
      refine r_aload0 dJ6_clear_44 ?_
      refine r_iconst (v := nI 0) dJ6_clear_45 (by decide) ?_
      refine p_J6_7_J6 dJ6_clear_46 (by omega) g_us ?_
      refine r_aload0 dJ6_clear_49 ?_
      refine r_dup dJ6_clear_50 ?_
      refine f_J6_33_J6 dJ6_clear_51 g_us ?_
      refine r_iconst (v := nI 1) dJ6_clear_54 (by decide) ?_
      refine r_iadd dJ6_clear_55 (by first | exact nI_add _ _ | rfl) ?_
      refine p_J6_33_J6 dJ6_clear_56 (by omega) g_us ?_
      exact r_return dJ6_clear_59 rfl (⟨⟨⟨.null, .null, by rw [g_us]; rfl, rfl, rfl⟩, by simp, fun z hz => by simp at hz, fun z hz => by simp at hz⟩, fun z z1 z2 => by rw [g_un z1, g_un z1, g_un z1, g_un z1]; exact f z z1 z2, rfl⟩)
    | cons q R ih =>
      intro D x p o2 h1 eQ sR el f
      obtain ⟨a, v⟩ := q
      obtain ⟨rfl, nx, ea, sR⟩ := sR
      have hq : (a, v) ∈ Q := by rw [← eQ]; simp
      have al := (s2 _ hq).1
      have ba := (s2 _ hq).2
      have na : ∀ z ∈ R, z.1 ≠ a := fun z hz => by
        rw [← eQ, List.map_append, List.nodup_append] at nd
        exact nd1 nd.2.1 z hz
      have k5 := fun h2 (e2 : h2 = g_up (g_up (g_up h1 a (lN_ .null nx p)) a (lN_ .null .null p)) a (lN_ .null .null .null)) => ih (D ++ [(a, v)]) nx (.ref a) (some nx) h2 (by rw [← eQ]; simp) (by subst e2; exact ((sR.up na).up na).up na) (by subst e2; rw [g_un (Ne.symm al), g_un (Ne.symm al), g_un (Ne.symm al)]; exact el) (by subst e2; exact fun z z1 z2 => by rw [g_un (fun e => z2 _ hq e.symm), g_un (fun e => z2 _ hq e.symm), g_un (fun e => z2 _ hq e.symm)]; exact f z z1 z2)
      have hnx : nx = .null ∨ ∃ z, nx = .ref z := by
        cases R with
        | nil => exact Or.inl sR.1
        | cons q R => exact Or.inr ⟨_, sR.1⟩
      rcases hnx with rfl | ⟨b, rfl⟩
      · skip
        refine r_aload1 dJ6_clear_5 ?_
        refine r_ifnull dJ6_clear_6 ?_
        refine r_aload1 dJ6_clear_9 ?_
        refine f_J6_36_J37 dJ6_clear_10 (by first | assumption | exact g_us | (rw [g_un (by omega)]; assumption) | (rw [g_un (by omega)]; exact g_us) | (rw [g_un (by omega), g_un (by omega)]; assumption) | (rw [g_un (by omega), g_un (by omega)]; exact g_us) | (rw [g_un (by omega), g_un (by omega), g_un (by omega)]; assumption) | ((repeat (rw [g_un (by omega)])); first | exact g_us | assumption)) ?_
        refine r_astoreZ2 dJ6_clear_13 ?_
        refine r_aload1 dJ6_clear_14 ?_
        refine r_null dJ6_clear_15 ?_
        refine p_J6_39_J37 dJ6_clear_16 (by omega) ea ?_
        refine r_aload1 dJ6_clear_19 ?_
        refine r_null dJ6_clear_20 ?_
        refine p_J6_36_J37 dJ6_clear_21 (by omega) g_us ?_
        refine r_aload1 dJ6_clear_24 ?_
        refine r_null dJ6_clear_25 ?_
        refine p_J6_30_J37 dJ6_clear_26 (by omega) g_us ?_
        refine r_aloadZ2 dJ6_clear_29 ?_
        refine r_astoreZ1 dJ6_clear_30 ?_
        refine r_goto (tgt := 5) dJ6_clear_31 (by decide) ?_
        exact k5 _ rfl
      · skip
        refine r_aload1 dJ6_clear_5 ?_
        refine r_ifnull dJ6_clear_6 ?_
        refine r_aload1 dJ6_clear_9 ?_
        refine f_J6_36_J37 dJ6_clear_10 (by first | assumption | exact g_us | (rw [g_un (by omega)]; assumption) | (rw [g_un (by omega)]; exact g_us) | (rw [g_un (by omega), g_un (by omega)]; assumption) | (rw [g_un (by omega), g_un (by omega)]; exact g_us) | (rw [g_un (by omega), g_un (by omega), g_un (by omega)]; assumption) | ((repeat (rw [g_un (by omega)])); first | exact g_us | assumption)) ?_
        refine r_astore2 dJ6_clear_13 ?_
        refine r_aload1 dJ6_clear_14 ?_
        refine r_null dJ6_clear_15 ?_
        refine p_J6_39_J37 dJ6_clear_16 (by omega) ea ?_
        refine r_aload1 dJ6_clear_19 ?_
        refine r_null dJ6_clear_20 ?_
        refine p_J6_36_J37 dJ6_clear_21 (by omega) g_us ?_
        refine r_aload1 dJ6_clear_24 ?_
        refine r_null dJ6_clear_25 ?_
        refine p_J6_30_J37 dJ6_clear_26 (by omega) g_us ?_
        refine r_aload2 dJ6_clear_29 ?_
        refine r_astore1 dJ6_clear_30 ?_
        refine r_goto (tgt := 5) dJ6_clear_31 (by decide) ?_
        exact k5 _ rfl
  have hx : x0 = .null ∨ ∃ z, x0 = .ref z := by
    cases Q with
    | nil => exact Or.inl s1.1
    | cons q R => exact Or.inr ⟨_, s1.1⟩
  have k5 := loop Q [] x0 .null none h rfl s1 e1 (fun _ _ _ => rfl)
  refine g_Met.of (M := mJ6_clear) (L := [some (.ref l), none, none]) (by decide +kernel) (Nat.le_of_ble_eq_true rfl) rfl ?_
  rcases hx with rfl | ⟨b, rfl⟩
  · skip
    refine r_aload0 dJ6_clear_0 ?_
    refine f_J6_18_J6 dJ6_clear_1 (by first | assumption | exact g_us | (rw [g_un (by omega)]; assumption) | (rw [g_un (by omega)]; exact g_us) | (rw [g_un (by omega), g_un (by omega)]; assumption) | (rw [g_un (by omega), g_un (by omega)]; exact g_us) | (rw [g_un (by omega), g_un (by omega), g_un (by omega)]; assumption) | ((repeat (rw [g_un (by omega)])); first | exact g_us | assumption)) ?_
    refine r_astoreZ1 dJ6_clear_4 ?_
    exact k5
  · skip
    refine r_aload0 dJ6_clear_0 ?_
    refine f_J6_18_J6 dJ6_clear_1 (by first | assumption | exact g_us | (rw [g_un (by omega)]; assumption) | (rw [g_un (by omega)]; exact g_us) | (rw [g_un (by omega), g_un (by omega)]; assumption) | (rw [g_un (by omega), g_un (by omega)]; exact g_us) | (rw [g_un (by omega), g_un (by omega), g_un (by omega)]; assumption) | ((repeat (rw [g_un (by omega)])); first | exact g_us | assumption)) ?_
    refine r_astore1 dJ6_clear_4 ?_
    exact k5
end
