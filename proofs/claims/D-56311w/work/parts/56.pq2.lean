/-! PriorityQueue: poll -/
set_option maxRecDepth 100000
section
variable {K : g_K} {q e c n : Nat} {m : Int32} {h : g_P} {wt : Nat → Nat}
theorem k_siftDown1 {x : Nat} {ws : List Value} (be : k_b K ≤ e) (he : h e = some (g_ar 5 ws)) (hl : ws.length = 11) (ox : ovT h wt x) : g_Met K mJ43_siftDownUsingComparator 3 0 0 [.int (nI 0), .ref x, .ref e, .int (nI 1), .ref c] h n (gV fun h' n' => h' = g_up h e (g_ar 5 (ws.set 0 (.ref x))) ∧ n' = n) gN := by
  obtain ⟨i, t, h1, h2, ea, wa⟩ := ox
  refine g_Met.of (M := mJ43_siftDownUsingComparator) (L := [some (.int (nI 0)), some (.ref x), some (.ref e), some (.int (nI 1)), some (.ref c), none, none, none, none]) (by decide +kernel) (Nat.le_of_ble_eq_true rfl) rfl ?_
  refine r_iload3 dJ43_siftDownUsingComparator_0 ?_
  refine r_iconst (v := nI 1) dJ43_siftDownUsingComparator_1 (by decide) ?_
  refine r_iushr dJ43_siftDownUsingComparator_2 (show _ = nI 0 by decide) ?_
  refine r_istore5 dJ43_siftDownUsingComparator_3 ?_
  refine r_iload0 dJ43_siftDownUsingComparator_5 ?_
  refine r_iload5 dJ43_siftDownUsingComparator_6 ?_
  refine r_icmp_geN (tgt := 88) dJ43_siftDownUsingComparator_8 (by decide) (by omega) (by omega) (fun c8 => ?_) (fun c8 => absurd c8 (by omega))
  refine r_aload2 dJ43_siftDownUsingComparator_88 ?_
  refine r_iload0 dJ43_siftDownUsingComparator_89 ?_
  refine r_aload1 dJ43_siftDownUsingComparator_90 ?_
  refine r_aastore (0) dJ43_siftDownUsingComparator_91 ga_O gc_X14 q4063 (by omega) he ea rfl (by omega) (by first | omega | simp; omega) ?_
  exact r_return dJ43_siftDownUsingComparator_92 rfl (⟨rfl, rfl⟩)
theorem k_siftDown2 {x b : Nat} {ws : List Value} (be : k_b K ≤ e) (hc : h c = some (g_ob 11 [])) (he : h e = some (g_ar 5 ws)) (hl : ws.length = 11) (h1b : ws[1]? = some (.ref b)) (ox : ovT h wt x) (ob : ovT h wt b) (xe : x ≠ e) : g_Met K mJ43_siftDownUsingComparator 3 0 0 [.int (nI 0), .ref x, .ref e, .int (nI 2), .ref c] h n (gV fun h' n' => h' = g_up h e (g_ar 5 (if wt x ≤ wt b then ws.set 0 (.ref x) else (ws.set 0 (.ref b)).set 1 (.ref x))) ∧ n' = n) gN := by
  have ox0 := ox
  have ob0 := ob
  obtain ⟨i, t, h1, h2, ea, wa⟩ := ox
  obtain ⟨i2, t2, h3, h4, eb, wb⟩ := ob
  have k71 : ∀ r : Int32, ((wt x < wt b ∧ r = -1) ∨ (wt x = wt b ∧ r = nI 0) ∨ (wt b < wt x ∧ r = nI 1)) → g_G K mJ43_siftDownUsingComparator 3 0 0 (gV fun h' n' => h' = g_up h e (g_ar 5 (if wt x ≤ wt b then ws.set 0 (.ref x) else (ws.set 0 (.ref b)).set 1 (.ref x))) ∧ n' = n) gN 71 [some (.int (nI 0)), some (.ref x), some (.ref e), some (.int (nI 2)), some (.ref c), some (.int (nI 1)), some (.int (nI 1)), some (.ref b), some (.int (nI 2))] [.int r] h n := by
    rintro r (⟨e1, rfl⟩ | ⟨e1, rfl⟩ | ⟨e1, rfl⟩)
    · skip
      refine r_if_gt (tgt := 77) dJ43_siftDownUsingComparator_71 (by decide) (fun c71 => absurd c71 ((by decide))) (fun c71 => ?_)
      refine r_goto (tgt := 88) dJ43_siftDownUsingComparator_74 (by decide) ?_
      refine r_aload2 dJ43_siftDownUsingComparator_88 ?_
      refine r_iload0 dJ43_siftDownUsingComparator_89 ?_
      refine r_aload1 dJ43_siftDownUsingComparator_90 ?_
      refine r_aastore (0) dJ43_siftDownUsingComparator_91 ga_O gc_X14 q4063 (by omega) he ea rfl (by omega) (by first | omega | simp; omega) ?_
      exact r_return dJ43_siftDownUsingComparator_92 rfl (⟨by rw [if_pos (by omega)], rfl⟩)
    · skip
      refine r_if_gtN (tgt := 77) dJ43_siftDownUsingComparator_71 (by decide) (by omega) (fun c71 => absurd c71 (by omega)) (fun c71 => ?_)
      refine r_goto (tgt := 88) dJ43_siftDownUsingComparator_74 (by decide) ?_
      refine r_aload2 dJ43_siftDownUsingComparator_88 ?_
      refine r_iload0 dJ43_siftDownUsingComparator_89 ?_
      refine r_aload1 dJ43_siftDownUsingComparator_90 ?_
      refine r_aastore (0) dJ43_siftDownUsingComparator_91 ga_O gc_X14 q4063 (by omega) he ea rfl (by omega) (by first | omega | simp; omega) ?_
      exact r_return dJ43_siftDownUsingComparator_92 rfl (⟨by rw [if_pos (by omega)], rfl⟩)
    · skip
      refine r_if_gtN (tgt := 77) dJ43_siftDownUsingComparator_71 (by decide) (by omega) (fun c71 => ?_) (fun c71 => absurd c71 (by omega))
      refine r_aload2 dJ43_siftDownUsingComparator_77 ?_
      refine r_iload0 dJ43_siftDownUsingComparator_78 ?_
      refine r_aload7 dJ43_siftDownUsingComparator_79 ?_
      refine r_aastore (0) dJ43_siftDownUsingComparator_81 ga_O gc_X14 q4063 (by omega) he eb rfl (by omega) (by first | omega | simp; omega) ?_
      refine r_iload6 dJ43_siftDownUsingComparator_82 ?_
      refine r_istore0 dJ43_siftDownUsingComparator_84 ?_
      refine r_goto (tgt := 5) dJ43_siftDownUsingComparator_85 (by decide) ?_
      refine r_iload0 dJ43_siftDownUsingComparator_5 ?_
      refine r_iload5 dJ43_siftDownUsingComparator_6 ?_
      refine r_icmp_geN (tgt := 88) dJ43_siftDownUsingComparator_8 (by decide) (by omega) (by omega) (fun c8 => ?_) (fun c8 => absurd c8 (by omega))
      refine r_aload2 dJ43_siftDownUsingComparator_88 ?_
      refine r_iload0 dJ43_siftDownUsingComparator_89 ?_
      refine r_aload1 dJ43_siftDownUsingComparator_90 ?_
      refine r_aastore (1) dJ43_siftDownUsingComparator_91 ga_O gc_X14 q4063 (by omega) g_us (by rw [g_un xe]; exact ea) rfl (by omega) (by first | omega | simp; omega) ?_
      exact r_return dJ43_siftDownUsingComparator_92 rfl (⟨by rw [g_up_up, if_neg (by omega)], rfl⟩)
  refine g_Met.of (M := mJ43_siftDownUsingComparator) (L := [some (.int (nI 0)), some (.ref x), some (.ref e), some (.int (nI 2)), some (.ref c), none, none, none, none]) (by decide +kernel) (Nat.le_of_ble_eq_true rfl) rfl ?_
  refine r_iload3 dJ43_siftDownUsingComparator_0 ?_
  refine r_iconst (v := nI 1) dJ43_siftDownUsingComparator_1 (by decide) ?_
  refine r_iushr dJ43_siftDownUsingComparator_2 (show _ = nI 1 by decide) ?_
  refine r_istore5 dJ43_siftDownUsingComparator_3 ?_
  refine r_iload0 dJ43_siftDownUsingComparator_5 ?_
  refine r_iload5 dJ43_siftDownUsingComparator_6 ?_
  refine r_icmp_geN (tgt := 88) dJ43_siftDownUsingComparator_8 (by decide) (by omega) (by omega) (fun c8 => absurd c8 (by omega)) (fun c8 => ?_)
  refine r_iload0 dJ43_siftDownUsingComparator_11 ?_
  refine r_iconst (v := nI 1) dJ43_siftDownUsingComparator_12 (by decide) ?_
  refine r_ishl dJ43_siftDownUsingComparator_13 (show _ = nI 0 by decide) ?_
  refine r_iconst (v := nI 1) dJ43_siftDownUsingComparator_14 (by decide) ?_
  refine r_iadd dJ43_siftDownUsingComparator_15 (by first | exact nI_add _ _ | rfl) ?_
  refine r_istore6 dJ43_siftDownUsingComparator_16 ?_
  refine r_aload2 dJ43_siftDownUsingComparator_18 ?_
  refine r_iload6 dJ43_siftDownUsingComparator_19 ?_
  refine r_aaload (1) dJ43_siftDownUsingComparator_21 ga_O rfl he rfl (by omega) h1b ?_
  refine r_astore7 dJ43_siftDownUsingComparator_22 ?_
  refine r_iload6 dJ43_siftDownUsingComparator_24 ?_
  refine r_iconst (v := nI 1) dJ43_siftDownUsingComparator_26 (by decide) ?_
  refine r_iadd dJ43_siftDownUsingComparator_27 (by first | exact nI_add _ _ | rfl) ?_
  refine r_istore8 dJ43_siftDownUsingComparator_28 ?_
  refine r_iload8 dJ43_siftDownUsingComparator_30 ?_
  refine r_iload3 dJ43_siftDownUsingComparator_32 ?_
  refine r_icmp_geN (tgt := 61) dJ43_siftDownUsingComparator_33 (by decide) (by omega) (by omega) (fun c33 => ?_) (fun c33 => absurd c33 (by omega))
  refine r_aload4 dJ43_siftDownUsingComparator_61 ?_
  refine r_aload1 dJ43_siftDownUsingComparator_63 ?_
  refine r_aload7 dJ43_siftDownUsingComparator_64 ?_
  refine r_callF (M' := mX13_compare) _ dJ43_siftDownUsingComparator_66 q978 q980 q979 rfl q982 q984 q985 q983 q981 rfl (lw_all_tbl q986) q185 (by exact (⟨by decide, by decide, by decide +kernel⟩ : g_pl ⟨"java/util/Comparator", "compare", "(Ljava/lang/Object;Ljava/lang/Object;)I"⟩ 2)) gc_X13 hc ((k_X13_compare hc ox0 ob0)) (by omega) (Nat.le_of_ble_eq_true rfl) (by omega) (by omega) rfl (Nat.le_of_ble_eq_true rfl) rfl (kI fun r66 h66 n66 e66 => ?_) kN
  obtain ⟨e66, q8, q7⟩ := e66; have q8 := q8.symm; have q7 := q7.symm; subst q8; subst q7
  exact k71 _ e66
theorem k_poll {a : Nat} {As : List Nat} (hb : k_b K ≤ q) (p : pqT K q e c m (a :: As) h) (hl : As.length ≤ 2) (oA : ∀ z ∈ a :: As, ovT h wt z) : g_Met K mJ43_poll 4 0 0 [.ref q] h n (gA fun r h' n' => r = .ref a ∧ pqT K q e c (m + nI 1) (pqPoll wt (a :: As)) h' ∧ (∀ z : Nat, z ≠ q → z ≠ e → h' z = h z) ∧ n' = n) gN := by
  obtain ⟨p1, ⟨r0, p2, p3⟩, p4, p5, p6⟩ := p
  have nq : ∀ a, ovT h wt a → a ≠ q := fun a o e9 => by obtain ⟨i, t, -, -, eo, -⟩ := o; rw [e9, p1] at eo; simp [g_ob] at eo
  have ne : ∀ a, ovT h wt a → a ≠ e := fun a o e9 => by obtain ⟨i, t, -, -, eo, -⟩ := o; rw [e9, p2] at eo; simp [g_ob, g_ar] at eo
  have cq : c ≠ q := fun e9 => by rw [e9, p1] at p6; simp [g_ob] at p6
  have ce : c ≠ e := fun e9 => by rw [e9, p2] at p6; simp [g_ob, g_ar] at p6
  have up : ∀ (h2 : g_P), (∀ z : Nat, z ≠ q → z ≠ e → h2 z = h z) → ∀ a, ovT h wt a → ovT h2 wt a := fun h2 f a o => by
    have z1 := nq a o
    have z2 := ne a o
    obtain ⟨i, t, o1, o2, eo, o3⟩ := o
    exact ⟨i, t, o1, o2, by rw [f a z1 z2]; exact eo, o3⟩
  refine g_Met.of (M := mJ43_poll) (L := [some (.ref q), none, none, none, none, none]) (by decide +kernel) (Nat.le_of_ble_eq_true rfl) rfl ?_
  match As, hl with
  | [], _ =>
    have : r0 = 10 := by simp at p3; omega
    subst this
    refine r_aload0 dJ43_poll_0 ?_
    refine f_J43_17_J43 dJ43_poll_1 (by first | assumption | exact g_us | (rw [g_un (by omega)]; assumption) | (rw [g_un (by omega)]; exact g_us) | (rw [g_un (by omega), g_un (by omega)]; assumption) | (rw [g_un (by omega), g_un (by omega)]; exact g_us) | (rw [g_un (by omega), g_un (by omega), g_un (by omega)]; assumption) | ((repeat (rw [g_un (by omega)])); first | exact g_us | assumption)) ?_
    refine r_dup dJ43_poll_4 ?_
    refine r_astore1 dJ43_poll_5 ?_
    refine r_iconst (v := nI 0) dJ43_poll_6 (by decide) ?_
    refine r_aaload (0) dJ43_poll_7 ga_O rfl p2 rfl (by omega) rfl ?_
    refine r_dup dJ43_poll_8 ?_
    refine r_astore2 dJ43_poll_9 ?_
    refine r_ifnull dJ43_poll_10 ?_
    refine r_aload0 dJ43_poll_13 ?_
    refine r_dup dJ43_poll_14 ?_
    refine f_J43_93_J43 dJ43_poll_15 (by first | assumption | exact g_us | (rw [g_un (by omega)]; assumption) | (rw [g_un (by omega)]; exact g_us) | (rw [g_un (by omega), g_un (by omega)]; assumption) | (rw [g_un (by omega), g_un (by omega)]; exact g_us) | (rw [g_un (by omega), g_un (by omega), g_un (by omega)]; assumption) | ((repeat (rw [g_un (by omega)])); first | exact g_us | assumption)) ?_
    refine r_iconst (v := nI 1) dJ43_poll_18 (by decide) ?_
    refine r_iadd dJ43_poll_19 (by first | exact nI_add _ _ | rfl) ?_
    refine p_J43_93_J43 dJ43_poll_20 (by omega) (by first | assumption | exact g_us | (rw [g_un (by omega)]; assumption) | (rw [g_un (by omega)]; exact g_us) | (rw [g_un (by omega), g_un (by omega)]; assumption) | (rw [g_un (by omega), g_un (by omega)]; exact g_us) | (rw [g_un (by omega), g_un (by omega), g_un (by omega)]; assumption) | ((repeat (rw [g_un (by omega)])); first | exact g_us | assumption)) ?_
    refine r_aload1 dJ43_poll_23 ?_
    refine r_aload0 dJ43_poll_24 ?_
    refine r_dup dJ43_poll_25 ?_
    refine f_J43_58_J43 dJ43_poll_26 g_us ?_
    refine r_iconst (v := nI 1) dJ43_poll_29 (by decide) ?_
    refine r_isub dJ43_poll_30 (show nI 1 - nI 1 = nI 0 from by decide) ?_
    refine r_dup_x1 dJ43_poll_31 ?_
    refine p_J43_58_J43 dJ43_poll_32 (by omega) g_us ?_
    refine r_dup dJ43_poll_35 ?_
    refine r_istore3 dJ43_poll_36 ?_
    refine r_aaload (0) dJ43_poll_37 ga_O rfl (by rw [g_un p5, g_un p5]; exact p2) rfl (by omega) rfl ?_
    refine r_astore4 dJ43_poll_38 ?_
    refine r_aload1 dJ43_poll_40 ?_
    refine r_iload3 dJ43_poll_41 ?_
    refine r_null dJ43_poll_42 ?_
    refine r_aastoreZ (0) dJ43_poll_43 ga_O (by omega) (by rw [g_un p5, g_un p5]; exact p2) rfl (by omega) (by simp) ?_
    refine r_iload3 dJ43_poll_44 ?_
    refine r_if_leN (tgt := 79) dJ43_poll_45 (by decide) (by omega) (fun c45 => ?_) (fun c45 => absurd c45 (by omega))
    refine r_aload2 dJ43_poll_79 ?_
    exact r_areturn dJ43_poll_80 rfl (Or.inl ⟨_, rfl⟩) (Or.inr ⟨_, rfl⟩) (⟨rfl, ⟨by rw [g_un (Ne.symm p5), g_us]; exact rfl, ⟨11, by rw [g_us]; rfl, rfl⟩, p4, p5, by rw [g_un ce, g_un cq, g_un cq]; exact p6⟩, fun z z1 z2 => by rw [g_un z2, g_un z1, g_un z1], rfl⟩)
  | [b], _ =>
    have : r0 = 9 := by simp at p3; omega
    subst this
    refine r_aload0 dJ43_poll_0 ?_
    refine f_J43_17_J43 dJ43_poll_1 (by first | assumption | exact g_us | (rw [g_un (by omega)]; assumption) | (rw [g_un (by omega)]; exact g_us) | (rw [g_un (by omega), g_un (by omega)]; assumption) | (rw [g_un (by omega), g_un (by omega)]; exact g_us) | (rw [g_un (by omega), g_un (by omega), g_un (by omega)]; assumption) | ((repeat (rw [g_un (by omega)])); first | exact g_us | assumption)) ?_
    refine r_dup dJ43_poll_4 ?_
    refine r_astore1 dJ43_poll_5 ?_
    refine r_iconst (v := nI 0) dJ43_poll_6 (by decide) ?_
    refine r_aaload (0) dJ43_poll_7 ga_O rfl p2 rfl (by omega) rfl ?_
    refine r_dup dJ43_poll_8 ?_
    refine r_astore2 dJ43_poll_9 ?_
    refine r_ifnull dJ43_poll_10 ?_
    refine r_aload0 dJ43_poll_13 ?_
    refine r_dup dJ43_poll_14 ?_
    refine f_J43_93_J43 dJ43_poll_15 (by first | assumption | exact g_us | (rw [g_un (by omega)]; assumption) | (rw [g_un (by omega)]; exact g_us) | (rw [g_un (by omega), g_un (by omega)]; assumption) | (rw [g_un (by omega), g_un (by omega)]; exact g_us) | (rw [g_un (by omega), g_un (by omega), g_un (by omega)]; assumption) | ((repeat (rw [g_un (by omega)])); first | exact g_us | assumption)) ?_
    refine r_iconst (v := nI 1) dJ43_poll_18 (by decide) ?_
    refine r_iadd dJ43_poll_19 (by first | exact nI_add _ _ | rfl) ?_
    refine p_J43_93_J43 dJ43_poll_20 (by omega) (by first | assumption | exact g_us | (rw [g_un (by omega)]; assumption) | (rw [g_un (by omega)]; exact g_us) | (rw [g_un (by omega), g_un (by omega)]; assumption) | (rw [g_un (by omega), g_un (by omega)]; exact g_us) | (rw [g_un (by omega), g_un (by omega), g_un (by omega)]; assumption) | ((repeat (rw [g_un (by omega)])); first | exact g_us | assumption)) ?_
    refine r_aload1 dJ43_poll_23 ?_
    refine r_aload0 dJ43_poll_24 ?_
    refine r_dup dJ43_poll_25 ?_
    refine f_J43_58_J43 dJ43_poll_26 g_us ?_
    refine r_iconst (v := nI 1) dJ43_poll_29 (by decide) ?_
    refine r_isub dJ43_poll_30 (show nI 2 - nI 1 = nI 1 from by decide) ?_
    refine r_dup_x1 dJ43_poll_31 ?_
    refine p_J43_58_J43 dJ43_poll_32 (by omega) g_us ?_
    refine r_dup dJ43_poll_35 ?_
    refine r_istore3 dJ43_poll_36 ?_
    refine r_aaload (1) dJ43_poll_37 ga_O rfl (by rw [g_un p5, g_un p5]; exact p2) rfl (by omega) rfl ?_
    refine r_astore4 dJ43_poll_38 ?_
    refine r_aload1 dJ43_poll_40 ?_
    refine r_iload3 dJ43_poll_41 ?_
    refine r_null dJ43_poll_42 ?_
    refine r_aastoreZ (1) dJ43_poll_43 ga_O (by omega) (by rw [g_un p5, g_un p5]; exact p2) rfl (by omega) (by simp) ?_
    refine r_iload3 dJ43_poll_44 ?_
    refine r_if_leN (tgt := 79) dJ43_poll_45 (by decide) (by omega) (fun c45 => absurd c45 (by omega)) (fun c45 => ?_)
    refine r_aload0 dJ43_poll_48 ?_
    refine f_J43_21_J43 dJ43_poll_49 (by rw [g_un (Ne.symm p5), g_us]) ?_
    refine r_dup dJ43_poll_52 ?_
    refine r_astore5 dJ43_poll_53 ?_
    refine r_ifnonnull (tgt := 69) dJ43_poll_55 (by decide) ?_
    refine r_iconst (v := nI 0) dJ43_poll_69 (by decide) ?_
    refine r_aload4 dJ43_poll_70 ?_
    refine r_aload1 dJ43_poll_72 ?_
    refine r_iload3 dJ43_poll_73 ?_
    refine r_aload5 dJ43_poll_74 ?_
    refine r_callS (M' := mJ43_siftDownUsingComparator) _ dJ43_poll_76 q1618 q1619 rfl (lw_all_tbl q1620) q184 (by exact pl_J43_siftDownUsingComparator)  ((k_siftDown1 (x := b) (wt := wt) p4 g_us (by simp) (up _ (fun z z1 z2 => by rw [g_un z2, g_un z1, g_un z1]) b (oA b (by simp))))) (by omega) (Nat.le_of_ble_eq_true rfl) (by omega) (by omega) rfl (Nat.le_of_ble_eq_true rfl) rfl (kV fun h76 n76 e76 => ?_) kN
    obtain ⟨q8, q7⟩ := e76; have q8 := q8.symm; have q7 := q7.symm; subst q8; subst q7
    refine r_aload2 dJ43_poll_79 ?_
    exact r_areturn dJ43_poll_80 rfl (Or.inl ⟨_, rfl⟩) (Or.inr ⟨_, rfl⟩) (⟨rfl, ⟨by rw [g_un (Ne.symm p5), g_un (Ne.symm p5), g_us]; rfl, ⟨10, by rw [g_us]; rfl, rfl⟩, p4, p5, by rw [g_un ce, g_un ce, g_un cq, g_un cq]; exact p6⟩, fun z z1 z2 => by rw [g_un z2, g_un z2, g_un z1, g_un z1], rfl⟩)
  | [b, d], _ =>
    have : r0 = 8 := by simp at p3; omega
    subst this
    refine r_aload0 dJ43_poll_0 ?_
    refine f_J43_17_J43 dJ43_poll_1 (by first | assumption | exact g_us | (rw [g_un (by omega)]; assumption) | (rw [g_un (by omega)]; exact g_us) | (rw [g_un (by omega), g_un (by omega)]; assumption) | (rw [g_un (by omega), g_un (by omega)]; exact g_us) | (rw [g_un (by omega), g_un (by omega), g_un (by omega)]; assumption) | ((repeat (rw [g_un (by omega)])); first | exact g_us | assumption)) ?_
    refine r_dup dJ43_poll_4 ?_
    refine r_astore1 dJ43_poll_5 ?_
    refine r_iconst (v := nI 0) dJ43_poll_6 (by decide) ?_
    refine r_aaload (0) dJ43_poll_7 ga_O rfl p2 rfl (by omega) rfl ?_
    refine r_dup dJ43_poll_8 ?_
    refine r_astore2 dJ43_poll_9 ?_
    refine r_ifnull dJ43_poll_10 ?_
    refine r_aload0 dJ43_poll_13 ?_
    refine r_dup dJ43_poll_14 ?_
    refine f_J43_93_J43 dJ43_poll_15 (by first | assumption | exact g_us | (rw [g_un (by omega)]; assumption) | (rw [g_un (by omega)]; exact g_us) | (rw [g_un (by omega), g_un (by omega)]; assumption) | (rw [g_un (by omega), g_un (by omega)]; exact g_us) | (rw [g_un (by omega), g_un (by omega), g_un (by omega)]; assumption) | ((repeat (rw [g_un (by omega)])); first | exact g_us | assumption)) ?_
    refine r_iconst (v := nI 1) dJ43_poll_18 (by decide) ?_
    refine r_iadd dJ43_poll_19 (by first | exact nI_add _ _ | rfl) ?_
    refine p_J43_93_J43 dJ43_poll_20 (by omega) (by first | assumption | exact g_us | (rw [g_un (by omega)]; assumption) | (rw [g_un (by omega)]; exact g_us) | (rw [g_un (by omega), g_un (by omega)]; assumption) | (rw [g_un (by omega), g_un (by omega)]; exact g_us) | (rw [g_un (by omega), g_un (by omega), g_un (by omega)]; assumption) | ((repeat (rw [g_un (by omega)])); first | exact g_us | assumption)) ?_
    refine r_aload1 dJ43_poll_23 ?_
    refine r_aload0 dJ43_poll_24 ?_
    refine r_dup dJ43_poll_25 ?_
    refine f_J43_58_J43 dJ43_poll_26 g_us ?_
    refine r_iconst (v := nI 1) dJ43_poll_29 (by decide) ?_
    refine r_isub dJ43_poll_30 (show nI 3 - nI 1 = nI 2 from by decide) ?_
    refine r_dup_x1 dJ43_poll_31 ?_
    refine p_J43_58_J43 dJ43_poll_32 (by omega) g_us ?_
    refine r_dup dJ43_poll_35 ?_
    refine r_istore3 dJ43_poll_36 ?_
    refine r_aaload (2) dJ43_poll_37 ga_O rfl (by rw [g_un p5, g_un p5]; exact p2) rfl (by omega) rfl ?_
    refine r_astore4 dJ43_poll_38 ?_
    refine r_aload1 dJ43_poll_40 ?_
    refine r_iload3 dJ43_poll_41 ?_
    refine r_null dJ43_poll_42 ?_
    refine r_aastoreZ (2) dJ43_poll_43 ga_O (by omega) (by rw [g_un p5, g_un p5]; exact p2) rfl (by omega) (by simp) ?_
    refine r_iload3 dJ43_poll_44 ?_
    refine r_if_leN (tgt := 79) dJ43_poll_45 (by decide) (by omega) (fun c45 => absurd c45 (by omega)) (fun c45 => ?_)
    refine r_aload0 dJ43_poll_48 ?_
    refine f_J43_21_J43 dJ43_poll_49 (by rw [g_un (Ne.symm p5), g_us]) ?_
    refine r_dup dJ43_poll_52 ?_
    refine r_astore5 dJ43_poll_53 ?_
    refine r_ifnonnull (tgt := 69) dJ43_poll_55 (by decide) ?_
    refine r_iconst (v := nI 0) dJ43_poll_69 (by decide) ?_
    refine r_aload4 dJ43_poll_70 ?_
    refine r_aload1 dJ43_poll_72 ?_
    refine r_iload3 dJ43_poll_73 ?_
    refine r_aload5 dJ43_poll_74 ?_
    refine r_callS (M' := mJ43_siftDownUsingComparator) _ dJ43_poll_76 q1618 q1619 rfl (lw_all_tbl q1620) q184 (by exact pl_J43_siftDownUsingComparator)  ((k_siftDown2 (x := d) (b := b) (wt := wt) p4 (by rw [g_un ce, g_un cq, g_un cq]; exact p6) g_us (by simp) rfl (up _ (fun z z1 z2 => by rw [g_un z2, g_un z1, g_un z1]) d (oA d (by simp))) (up _ (fun z z1 z2 => by rw [g_un z2, g_un z1, g_un z1]) b (oA b (by simp))) (ne d (oA d (by simp))))) (by omega) (Nat.le_of_ble_eq_true rfl) (by omega) (by omega) rfl (Nat.le_of_ble_eq_true rfl) rfl (kV fun h76 n76 e76 => ?_) kN
    obtain ⟨q8, q7⟩ := e76; have q8 := q8.symm; have q7 := q7.symm; subst q8; subst q7
    refine r_aload2 dJ43_poll_79 ?_
    exact r_areturn dJ43_poll_80 rfl (Or.inl ⟨_, rfl⟩) (Or.inr ⟨_, rfl⟩) (⟨rfl, ⟨by rw [g_un (Ne.symm p5), g_un (Ne.symm p5), g_us]; simp only [pqPoll]; split <;> rfl, ⟨9, by rw [g_us]; simp only [pqPoll]; split <;> rfl, by simp only [pqPoll]; split <;> rfl⟩, p4, p5, by rw [g_un ce, g_un ce, g_un cq, g_un cq]; exact p6⟩, fun z z1 z2 => by rw [g_un z2, g_un z2, g_un z1, g_un z1], rfl⟩)
end
