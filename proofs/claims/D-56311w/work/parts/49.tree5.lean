/-! TreeMap: put over a key that is there; the walk in order; TreeSet -/
set_option maxRecDepth 100000
section
variable {K : g_K} {a n : Nat} {h : g_P}
theorem k_getFirst {mp : Nat} {L : List c_N} {mc : Int32} {nk : Value} (T : tm K mp L mc nk h) : g_Met K mJ1_getFirstEntry 0 0 0 [.ref mp] h n (gA fun r h' n' => r = hdV L ∧ h' = h ∧ n' = n) gN := by
  obtain ⟨⟨t, hm, ⟨f0, sN⟩, -⟩, -⟩ := T
  have loop : ∀ (f : Nat) (M : List c_N) (y : Nat) (q : Value), seg h f M (.ref y) q → hdV M = hdV L → g_G K mJ1_getFirstEntry 0 0 0 (gA fun r h' n' => r = hdV L ∧ h' = h ∧ n' = n) gN 9 [some (.ref mp), some (.ref y)] [] h n := by
    intro f
    induction f with
    | zero => intro M y q s; obtain ⟨-, e⟩ := s; cases e
    | succ f ih =>
      intro M y q s eM
      rcases s with ⟨-, e⟩ | ⟨U, V, c, kb, vb, l, r, cc, rfl, e, ec, sl, sr⟩
      · cases e
      · cases e
        rcases sg.vr ⟨f, sl⟩ with rfl | ⟨x, rfl⟩
        · have hU := sg.null ⟨f, sl⟩
          subst hU
          refine r_aload1 dJ1_getFirstEntry_9 ?_
          refine f_J1_111_J21 dJ1_getFirstEntry_10 (by first | assumption | exact g_us | (rw [g_un (by omega)]; assumption) | (rw [g_un (by omega)]; exact g_us) | (rw [g_un (by omega), g_un (by omega)]; assumption) | (rw [g_un (by omega), g_un (by omega)]; exact g_us) | (rw [g_un (by omega), g_un (by omega), g_un (by omega)]; assumption) | ((repeat (rw [g_un (by omega)])); first | exact g_us | assumption)) ?_
          refine r_ifnullZ (tgt := 24) dJ1_getFirstEntry_13 (by decide) ?_
          refine r_aload1 dJ1_getFirstEntry_24 ?_
          exact r_areturn dJ1_getFirstEntry_25 rfl (Or.inl ⟨_, rfl⟩) (Or.inr ⟨_, rfl⟩) (⟨eM, rfl, rfl⟩)
        · have hU : U ≠ [] := fun e => by
            subst e
            obtain ⟨kk, v, l, r, c, A, B, e9, -⟩ := sg.mem ⟨f, sl⟩
            simp at e9
          refine r_aload1 dJ1_getFirstEntry_9 ?_
          refine f_J1_111_J21 dJ1_getFirstEntry_10 (by first | assumption | exact g_us | (rw [g_un (by omega)]; assumption) | (rw [g_un (by omega)]; exact g_us) | (rw [g_un (by omega), g_un (by omega)]; assumption) | (rw [g_un (by omega), g_un (by omega)]; exact g_us) | (rw [g_un (by omega), g_un (by omega), g_un (by omega)]; assumption) | ((repeat (rw [g_un (by omega)])); first | exact g_us | assumption)) ?_
          refine r_ifnull dJ1_getFirstEntry_13 ?_
          refine r_aload1 dJ1_getFirstEntry_16 ?_
          refine f_J1_111_J21 dJ1_getFirstEntry_17 (by first | assumption | exact g_us | (rw [g_un (by omega)]; assumption) | (rw [g_un (by omega)]; exact g_us) | (rw [g_un (by omega), g_un (by omega)]; assumption) | (rw [g_un (by omega), g_un (by omega)]; exact g_us) | (rw [g_un (by omega), g_un (by omega), g_un (by omega)]; assumption) | ((repeat (rw [g_un (by omega)])); first | exact g_us | assumption)) ?_
          refine r_astore1 dJ1_getFirstEntry_20 ?_
          refine r_goto (tgt := 9) dJ1_getFirstEntry_21 (by decide) ?_
          exact ih U x (.ref y) sl ((hdV_app hU).symm.trans eM)
  refine g_Met.of (M := mJ1_getFirstEntry) (L := [some (.ref mp), none]) (by decide +kernel) (Nat.le_of_ble_eq_true rfl) rfl ?_
  rcases sg.vr ⟨f0, sN⟩ with rfl | ⟨y, rfl⟩
  · have hL := sg.null ⟨f0, sN⟩
    subst hL
    refine r_aload0 dJ1_getFirstEntry_0 ?_
    refine f_J1_101_J1 dJ1_getFirstEntry_1 (by first | assumption | exact g_us | (rw [g_un (by omega)]; assumption) | (rw [g_un (by omega)]; exact g_us) | (rw [g_un (by omega), g_un (by omega)]; assumption) | (rw [g_un (by omega), g_un (by omega)]; exact g_us) | (rw [g_un (by omega), g_un (by omega), g_un (by omega)]; assumption) | ((repeat (rw [g_un (by omega)])); first | exact g_us | assumption)) ?_
    refine r_astoreZ1 dJ1_getFirstEntry_4 ?_
    refine r_aloadZ1 dJ1_getFirstEntry_5 ?_
    refine r_ifnullZ (tgt := 24) dJ1_getFirstEntry_6 (by decide) ?_
    refine r_aloadZ1 dJ1_getFirstEntry_24 ?_
    exact r_areturn dJ1_getFirstEntry_25 rfl (Or.inl ⟨_, rfl⟩) (Or.inl rfl) (⟨rfl, rfl, rfl⟩)
  · skip
    refine r_aload0 dJ1_getFirstEntry_0 ?_
    refine f_J1_101_J1 dJ1_getFirstEntry_1 (by first | assumption | exact g_us | (rw [g_un (by omega)]; assumption) | (rw [g_un (by omega)]; exact g_us) | (rw [g_un (by omega), g_un (by omega)]; assumption) | (rw [g_un (by omega), g_un (by omega)]; exact g_us) | (rw [g_un (by omega), g_un (by omega), g_un (by omega)]; assumption) | ((repeat (rw [g_un (by omega)])); first | exact g_us | assumption)) ?_
    refine r_astore1 dJ1_getFirstEntry_4 ?_
    refine r_aload1 dJ1_getFirstEntry_5 ?_
    refine r_ifnull dJ1_getFirstEntry_6 ?_
    exact loop f0 L y .null sN rfl
theorem k_successor {mp : Nat} {L1 L2 : List c_N} {kk v : Value} {mc : Int32} {nk : Value} (T : tm K mp (L1 ++ (a, kk, v) :: L2) mc nk h) : g_Met K mJ1_successor 0 0 0 [.ref a] h n (gA fun r h' n' => r = hdV L2 ∧ h' = h ∧ n' = n) gN := by
  obtain ⟨⟨t, hm, sN, -⟩, nd, -⟩ := T
  obtain ⟨j, A1, A2, B1, B2, l, r, q, cc, rfl, rfl, ea, s1, s2, c⟩ := sN.foc rfl (k := 0) (A := []) (B := []) (t := t) ⟨rfl, rfl, rfl, rfl⟩
  simp only [List.nil_append, List.append_nil] at c
  have down : ∀ (f : Nat) (M : List c_N) (y : Nat) (q : Value), seg h f M (.ref y) q → hdV M = hdV (B1 ++ B2) → g_G K mJ1_successor 0 0 0 (gA fun r h' n' => r = hdV (B1 ++ B2) ∧ h' = h ∧ n' = n) gN 18 [some (.ref a), some (.ref y), none] [] h n := by
    intro f
    induction f with
    | zero => intro M y q s; obtain ⟨-, e⟩ := s; cases e
    | succ f ih =>
      intro M y q s eM
      rcases s with ⟨-, e⟩ | ⟨U, V, c, kb, vb, l, r, cc, rfl, e, ec, sl, sr⟩
      · cases e
      · cases e
        rcases sg.vr ⟨f, sl⟩ with rfl | ⟨x, rfl⟩
        · have hU := sg.null ⟨f, sl⟩
          subst hU
          refine r_aload1 dJ1_successor_18 ?_
          refine f_J1_111_J21 dJ1_successor_19 (by first | assumption | exact g_us | (rw [g_un (by omega)]; assumption) | (rw [g_un (by omega)]; exact g_us) | (rw [g_un (by omega), g_un (by omega)]; assumption) | (rw [g_un (by omega), g_un (by omega)]; exact g_us) | (rw [g_un (by omega), g_un (by omega), g_un (by omega)]; assumption) | ((repeat (rw [g_un (by omega)])); first | exact g_us | assumption)) ?_
          refine r_ifnullZ (tgt := 33) dJ1_successor_22 (by decide) ?_
          refine r_aload1 dJ1_successor_33 ?_
          exact r_areturn dJ1_successor_34 rfl (Or.inl ⟨_, rfl⟩) (Or.inr ⟨_, rfl⟩) (⟨eM, rfl, rfl⟩)
        · have hU : U ≠ [] := fun e => by
            subst e
            obtain ⟨kk, v, l, r, c, A, B, e9, -⟩ := sg.mem ⟨f, sl⟩
            simp at e9
          refine r_aload1 dJ1_successor_18 ?_
          refine f_J1_111_J21 dJ1_successor_19 (by first | assumption | exact g_us | (rw [g_un (by omega)]; assumption) | (rw [g_un (by omega)]; exact g_us) | (rw [g_un (by omega), g_un (by omega)]; assumption) | (rw [g_un (by omega), g_un (by omega)]; exact g_us) | (rw [g_un (by omega), g_un (by omega), g_un (by omega)]; assumption) | ((repeat (rw [g_un (by omega)])); first | exact g_us | assumption)) ?_
          refine r_ifnull dJ1_successor_22 ?_
          refine r_aload1 dJ1_successor_25 ?_
          refine f_J1_111_J21 dJ1_successor_26 (by first | assumption | exact g_us | (rw [g_un (by omega)]; assumption) | (rw [g_un (by omega)]; exact g_us) | (rw [g_un (by omega), g_un (by omega)]; assumption) | (rw [g_un (by omega), g_un (by omega)]; exact g_us) | (rw [g_un (by omega), g_un (by omega), g_un (by omega)]; assumption) | ((repeat (rw [g_un (by omega)])); first | exact g_us | assumption)) ?_
          refine r_astore1 dJ1_successor_29 ?_
          refine r_goto (tgt := 18) dJ1_successor_30 (by decide) ?_
          exact ih U x (.ref y) sl ((hdV_app hU).symm.trans eM)
  have up : ∀ (j : Nat) (A B M : List c_N) (x : Nat) (q : Value), ctx h j A B (.ref x) q t → (∃ z ∈ M, z.1 = x) → ((A ++ (M ++ B)).map Prod.fst).Nodup → hdV B = hdV (B1 ++ B2) → g_G K mJ1_successor 0 0 0 (gA fun r h' n' => r = hdV (B1 ++ B2) ∧ h' = h ∧ n' = n) gN 42 [some (.ref a), some q, some (.ref x)] [] h n := by
    intro j
    induction j with
    | zero =>
      intro A B M x q c hx nd eB
      obtain ⟨rfl, rfl, rfl, -⟩ := c
      refine r_aloadZ1 dJ1_successor_42 ?_
      refine r_ifnullZ (tgt := 64) dJ1_successor_43 (by decide) ?_
      refine r_aloadZ1 dJ1_successor_64 ?_
      exact r_areturn dJ1_successor_65 rfl (Or.inl ⟨_, rfl⟩) (Or.inl rfl) (⟨eB, rfl, rfl⟩)
    | succ j ih =>
      intro A B M x q c hx nd eB
      obtain ⟨p, kp, vp, o, q2, cc, A', B', O, rfl, so, ⟨ep, rfl, rfl⟩ | ⟨ep, rfl, rfl⟩, c2⟩ := c
      · rcases so.vr with rfl | ⟨b, rfl⟩
        · skip
          refine r_aload1 dJ1_successor_42 ?_
          refine r_ifnull dJ1_successor_43 ?_
          refine r_aload2 dJ1_successor_46 ?_
          refine r_aload1 dJ1_successor_47 ?_
          refine f_J1_114_J21 dJ1_successor_48 (by first | assumption | exact g_us | (rw [g_un (by omega)]; assumption) | (rw [g_un (by omega)]; exact g_us) | (rw [g_un (by omega), g_un (by omega)]; assumption) | (rw [g_un (by omega), g_un (by omega)]; exact g_us) | (rw [g_un (by omega), g_un (by omega), g_un (by omega)]; assumption) | ((repeat (rw [g_un (by omega)])); first | exact g_us | assumption)) ?_
          refine r_acmp_neRZ (tgt := 64) dJ1_successor_51 (by decide) ?_
          refine r_aload1 dJ1_successor_64 ?_
          exact r_areturn dJ1_successor_65 rfl (Or.inl ⟨_, rfl⟩) (Or.inr ⟨_, rfl⟩) (⟨eB, rfl, rfl⟩)
        · have xb : ¬ x = b := fun e => by
            obtain ⟨kb, vb, lb, rb, cb, U, V, eO, -⟩ := so.mem
            obtain ⟨z, hz, rfl⟩ := hx
            exact (nd_mid nd).2.2 (b, kb, vb) (by rw [eO]; simp) z hz e.symm
          refine r_aload1 dJ1_successor_42 ?_
          refine r_ifnull dJ1_successor_43 ?_
          refine r_aload2 dJ1_successor_46 ?_
          refine r_aload1 dJ1_successor_47 ?_
          refine f_J1_114_J21 dJ1_successor_48 (by first | assumption | exact g_us | (rw [g_un (by omega)]; assumption) | (rw [g_un (by omega)]; exact g_us) | (rw [g_un (by omega), g_un (by omega)]; assumption) | (rw [g_un (by omega), g_un (by omega)]; exact g_us) | (rw [g_un (by omega), g_un (by omega), g_un (by omega)]; assumption) | ((repeat (rw [g_un (by omega)])); first | exact g_us | assumption)) ?_
          refine r_acmp_ne (tgt := 64) dJ1_successor_51 (by decide) (fun c51 => ?_) (fun c51 => absurd c51 xb)
          refine r_aload1 dJ1_successor_64 ?_
          exact r_areturn dJ1_successor_65 rfl (Or.inl ⟨_, rfl⟩) (Or.inr ⟨_, rfl⟩) (⟨eB, rfl, rfl⟩)
      · have k42 := ih A' B (O ++ ((p, kp, vp) :: M)) p q2 c2 ⟨(p, kp, vp), by simp, rfl⟩ (by simpa using nd) eB
        rcases (show q2 = .null ∨ ∃ z, q2 = .ref z by
          cases j with
          | zero => exact Or.inl c2.2.2.1
          | succ j => obtain ⟨z, _, _, _, _, _, _, _, _, e, -⟩ := c2; exact Or.inr ⟨z, e⟩) with rfl | ⟨z, rfl⟩
        · skip
          refine r_aload1 dJ1_successor_42 ?_
          refine r_ifnull dJ1_successor_43 ?_
          refine r_aload2 dJ1_successor_46 ?_
          refine r_aload1 dJ1_successor_47 ?_
          refine f_J1_114_J21 dJ1_successor_48 (by first | assumption | exact g_us | (rw [g_un (by omega)]; assumption) | (rw [g_un (by omega)]; exact g_us) | (rw [g_un (by omega), g_un (by omega)]; assumption) | (rw [g_un (by omega), g_un (by omega)]; exact g_us) | (rw [g_un (by omega), g_un (by omega), g_un (by omega)]; assumption) | ((repeat (rw [g_un (by omega)])); first | exact g_us | assumption)) ?_
          refine r_acmp_ne (tgt := 64) dJ1_successor_51 (by decide) (fun c51 => absurd c51 ((fun z => z rfl))) (fun c51 => ?_)
          refine r_aload1 dJ1_successor_54 ?_
          refine r_astore2 dJ1_successor_55 ?_
          refine r_aload1 dJ1_successor_56 ?_
          refine f_J1_124_J21 dJ1_successor_57 (by first | assumption | exact g_us | (rw [g_un (by omega)]; assumption) | (rw [g_un (by omega)]; exact g_us) | (rw [g_un (by omega), g_un (by omega)]; assumption) | (rw [g_un (by omega), g_un (by omega)]; exact g_us) | (rw [g_un (by omega), g_un (by omega), g_un (by omega)]; assumption) | ((repeat (rw [g_un (by omega)])); first | exact g_us | assumption)) ?_
          refine r_astoreZ1 dJ1_successor_60 ?_
          refine r_goto (tgt := 42) dJ1_successor_61 (by decide) ?_
          exact k42
        · skip
          refine r_aload1 dJ1_successor_42 ?_
          refine r_ifnull dJ1_successor_43 ?_
          refine r_aload2 dJ1_successor_46 ?_
          refine r_aload1 dJ1_successor_47 ?_
          refine f_J1_114_J21 dJ1_successor_48 (by first | assumption | exact g_us | (rw [g_un (by omega)]; assumption) | (rw [g_un (by omega)]; exact g_us) | (rw [g_un (by omega), g_un (by omega)]; assumption) | (rw [g_un (by omega), g_un (by omega)]; exact g_us) | (rw [g_un (by omega), g_un (by omega), g_un (by omega)]; assumption) | ((repeat (rw [g_un (by omega)])); first | exact g_us | assumption)) ?_
          refine r_acmp_ne (tgt := 64) dJ1_successor_51 (by decide) (fun c51 => absurd c51 ((fun z => z rfl))) (fun c51 => ?_)
          refine r_aload1 dJ1_successor_54 ?_
          refine r_astore2 dJ1_successor_55 ?_
          refine r_aload1 dJ1_successor_56 ?_
          refine f_J1_124_J21 dJ1_successor_57 (by first | assumption | exact g_us | (rw [g_un (by omega)]; assumption) | (rw [g_un (by omega)]; exact g_us) | (rw [g_un (by omega), g_un (by omega)]; assumption) | (rw [g_un (by omega), g_un (by omega)]; exact g_us) | (rw [g_un (by omega), g_un (by omega), g_un (by omega)]; assumption) | ((repeat (rw [g_un (by omega)])); first | exact g_us | assumption)) ?_
          refine r_astore1 dJ1_successor_60 ?_
          refine r_goto (tgt := 42) dJ1_successor_61 (by decide) ?_
          exact k42
  refine g_Met.of (M := mJ1_successor) (L := [some (.ref a), none, none]) (by decide +kernel) (Nat.le_of_ble_eq_true rfl) rfl ?_
  rcases s2.vr with rfl | ⟨y, rfl⟩
  · have hB := s2.null
    subst hB
    have k42 := up j A1 B2 (A2 ++ [(a, kk, v)]) a q c ⟨(a, kk, v), by simp, rfl⟩ (by simpa using nd) rfl
    rcases (show q = .null ∨ ∃ z, q = .ref z by
      cases j with
      | zero => exact Or.inl c.2.2.1
      | succ j => obtain ⟨z, _, _, _, _, _, _, _, _, e, -⟩ := c; exact Or.inr ⟨z, e⟩) with rfl | ⟨z, rfl⟩
    · skip
      refine r_aload0 dJ1_successor_0 ?_
      refine r_ifnonnull (tgt := 6) dJ1_successor_1 (by decide) ?_
      refine r_aload0 dJ1_successor_6 ?_
      refine f_J1_114_J21 dJ1_successor_7 (by first | assumption | exact g_us | (rw [g_un (by omega)]; assumption) | (rw [g_un (by omega)]; exact g_us) | (rw [g_un (by omega), g_un (by omega)]; assumption) | (rw [g_un (by omega), g_un (by omega)]; exact g_us) | (rw [g_un (by omega), g_un (by omega), g_un (by omega)]; assumption) | ((repeat (rw [g_un (by omega)])); first | exact g_us | assumption)) ?_
      refine r_ifnullZ (tgt := 35) dJ1_successor_10 (by decide) ?_
      refine r_aload0 dJ1_successor_35 ?_
      refine f_J1_124_J21 dJ1_successor_36 (by first | assumption | exact g_us | (rw [g_un (by omega)]; assumption) | (rw [g_un (by omega)]; exact g_us) | (rw [g_un (by omega), g_un (by omega)]; assumption) | (rw [g_un (by omega), g_un (by omega)]; exact g_us) | (rw [g_un (by omega), g_un (by omega), g_un (by omega)]; assumption) | ((repeat (rw [g_un (by omega)])); first | exact g_us | assumption)) ?_
      refine r_astoreZ1 dJ1_successor_39 ?_
      refine r_aload0 dJ1_successor_40 ?_
      refine r_astore2 dJ1_successor_41 ?_
      exact k42
    · skip
      refine r_aload0 dJ1_successor_0 ?_
      refine r_ifnonnull (tgt := 6) dJ1_successor_1 (by decide) ?_
      refine r_aload0 dJ1_successor_6 ?_
      refine f_J1_114_J21 dJ1_successor_7 (by first | assumption | exact g_us | (rw [g_un (by omega)]; assumption) | (rw [g_un (by omega)]; exact g_us) | (rw [g_un (by omega), g_un (by omega)]; assumption) | (rw [g_un (by omega), g_un (by omega)]; exact g_us) | (rw [g_un (by omega), g_un (by omega), g_un (by omega)]; assumption) | ((repeat (rw [g_un (by omega)])); first | exact g_us | assumption)) ?_
      refine r_ifnullZ (tgt := 35) dJ1_successor_10 (by decide) ?_
      refine r_aload0 dJ1_successor_35 ?_
      refine f_J1_124_J21 dJ1_successor_36 (by first | assumption | exact g_us | (rw [g_un (by omega)]; assumption) | (rw [g_un (by omega)]; exact g_us) | (rw [g_un (by omega), g_un (by omega)]; assumption) | (rw [g_un (by omega), g_un (by omega)]; exact g_us) | (rw [g_un (by omega), g_un (by omega), g_un (by omega)]; assumption) | ((repeat (rw [g_un (by omega)])); first | exact g_us | assumption)) ?_
      refine r_astore1 dJ1_successor_39 ?_
      refine r_aload0 dJ1_successor_40 ?_
      refine r_astore2 dJ1_successor_41 ?_
      exact k42
  · have hB : B1 ≠ [] := fun e => by
      subst e
      obtain ⟨kk, v, l, r, c, A, B, e9, -⟩ := s2.mem
      simp at e9
    obtain ⟨f2, s2⟩ := s2
    refine r_aload0 dJ1_successor_0 ?_
    refine r_ifnonnull (tgt := 6) dJ1_successor_1 (by decide) ?_
    refine r_aload0 dJ1_successor_6 ?_
    refine f_J1_114_J21 dJ1_successor_7 (by first | assumption | exact g_us | (rw [g_un (by omega)]; assumption) | (rw [g_un (by omega)]; exact g_us) | (rw [g_un (by omega), g_un (by omega)]; assumption) | (rw [g_un (by omega), g_un (by omega)]; exact g_us) | (rw [g_un (by omega), g_un (by omega), g_un (by omega)]; assumption) | ((repeat (rw [g_un (by omega)])); first | exact g_us | assumption)) ?_
    refine r_ifnull dJ1_successor_10 ?_
    refine r_aload0 dJ1_successor_13 ?_
    refine f_J1_114_J21 dJ1_successor_14 (by first | assumption | exact g_us | (rw [g_un (by omega)]; assumption) | (rw [g_un (by omega)]; exact g_us) | (rw [g_un (by omega), g_un (by omega)]; assumption) | (rw [g_un (by omega), g_un (by omega)]; exact g_us) | (rw [g_un (by omega), g_un (by omega), g_un (by omega)]; assumption) | ((repeat (rw [g_un (by omega)])); first | exact g_us | assumption)) ?_
    refine r_astore1 dJ1_successor_17 ?_
    exact down f2 B1 y (.ref a) s2 (hdV_app hB).symm
theorem k_J25_init {mp i : Nat} {L : List c_N} {mc : Int32} {nk v0 v1 v2 v3 e : Value} (T : tm K mp L mc nk h) (hb : k_b K ≤ i) (ho : h i = some (g_ob 26 [v0, v1, v2, v3])) (im : i ≠ mp) (he : e = .null ∨ ∃ x, e = .ref x) : g_Met K mJ25_init 1 0 0 [.ref i, .ref mp, e] h n (gV fun h' n' => h' = g_up h i (g_ob 26 [e, .null, .int mc, .ref mp]) ∧ n' = n) gN := by
  obtain ⟨⟨t, hm, -⟩, -⟩ := T
  rcases he with rfl | ⟨x, rfl⟩
  · skip
    refine g_Met.of (M := mJ25_init) (L := [some (.ref i), some (.ref mp), some (.null)]) (by decide +kernel) (Nat.le_of_ble_eq_true rfl) rfl ?_
    refine r_aload0 dJ25_init_0 ?_
    refine r_aload1 dJ25_init_1 ?_
    refine p_J25_1_J26 dJ25_init_2 (by omega) (by first | assumption | exact g_us | (rw [g_un (by omega)]; assumption) | (rw [g_un (by omega)]; exact g_us) | (rw [g_un (by omega), g_un (by omega)]; assumption) | (rw [g_un (by omega), g_un (by omega)]; exact g_us) | (rw [g_un (by omega), g_un (by omega), g_un (by omega)]; assumption) | ((repeat (rw [g_un (by omega)])); first | exact g_us | assumption)) ?_
    refine r_aload0 dJ25_init_5 ?_
    refine r_objInit dJ25_init_6 q1728 q200 q201 rfl (by omega) (Nat.le_of_ble_eq_true rfl) ?_
    refine r_aload0 dJ25_init_9 ?_
    refine r_aload1 dJ25_init_10 ?_
    refine f_J25_13_J1 dJ25_init_11 (by rw [g_un (Ne.symm im)]; exact hm) ?_
    refine p_J25_19_J26 dJ25_init_14 (by omega) g_us ?_
    refine r_aload0 dJ25_init_17 ?_
    refine r_null dJ25_init_18 ?_
    refine p_J25_22_J26 dJ25_init_19 (by omega) g_us ?_
    refine r_aload0 dJ25_init_22 ?_
    refine r_aloadZ2 dJ25_init_23 ?_
    refine p_J25_26_J26 dJ25_init_24 (by omega) g_us ?_
    exact r_return dJ25_init_27 rfl (⟨by rw [g_up_up, g_up_up, g_up_up], rfl⟩)
  · skip
    refine g_Met.of (M := mJ25_init) (L := [some (.ref i), some (.ref mp), some (.ref x)]) (by decide +kernel) (Nat.le_of_ble_eq_true rfl) rfl ?_
    refine r_aload0 dJ25_init_0 ?_
    refine r_aload1 dJ25_init_1 ?_
    refine p_J25_1_J26 dJ25_init_2 (by omega) (by first | assumption | exact g_us | (rw [g_un (by omega)]; assumption) | (rw [g_un (by omega)]; exact g_us) | (rw [g_un (by omega), g_un (by omega)]; assumption) | (rw [g_un (by omega), g_un (by omega)]; exact g_us) | (rw [g_un (by omega), g_un (by omega), g_un (by omega)]; assumption) | ((repeat (rw [g_un (by omega)])); first | exact g_us | assumption)) ?_
    refine r_aload0 dJ25_init_5 ?_
    refine r_objInit dJ25_init_6 q1728 q200 q201 rfl (by omega) (Nat.le_of_ble_eq_true rfl) ?_
    refine r_aload0 dJ25_init_9 ?_
    refine r_aload1 dJ25_init_10 ?_
    refine f_J25_13_J1 dJ25_init_11 (by rw [g_un (Ne.symm im)]; exact hm) ?_
    refine p_J25_19_J26 dJ25_init_14 (by omega) g_us ?_
    refine r_aload0 dJ25_init_17 ?_
    refine r_null dJ25_init_18 ?_
    refine p_J25_22_J26 dJ25_init_19 (by omega) g_us ?_
    refine r_aload0 dJ25_init_22 ?_
    refine r_aload2 dJ25_init_23 ?_
    refine p_J25_26_J26 dJ25_init_24 (by omega) g_us ?_
    exact r_return dJ25_init_27 rfl (⟨by rw [g_up_up, g_up_up, g_up_up], rfl⟩)
theorem k_J26_init {mp i : Nat} {L : List c_N} {mc : Int32} {nk v0 v1 v2 v3 e : Value} (T : tm K mp L mc nk h) (hb : k_b K ≤ i) (ho : h i = some (g_ob 26 [v0, v1, v2, v3])) (im : i ≠ mp) (he : e = .null ∨ ∃ x, e = .ref x) : g_Met K mJ26_init 2 0 0 [.ref i, .ref mp, e] h n (gV fun h' n' => h' = g_up h i (g_ob 26 [e, .null, .int mc, .ref mp]) ∧ n' = n) gN := by
  rcases he with rfl | ⟨x, rfl⟩
  · skip
    refine g_Met.of (M := mJ26_init) (L := [some (.ref i), some (.ref mp), some (.null)]) (by decide +kernel) (Nat.le_of_ble_eq_true rfl) rfl ?_
    refine r_aload0 dJ26_init_0 ?_
    refine r_aload1 dJ26_init_1 ?_
    refine r_aloadZ2 dJ26_init_2 ?_
    refine r_callI (M' := mJ25_init) _ dJ26_init_3 q1725 q1726 rfl rfl rfl (lw_all_tbl q1727) q158 (by exact pl_J25_init)  ((k_J25_init T hb ho im (Or.inl rfl))) (by omega) (Nat.le_of_ble_eq_true rfl) (by omega) (by omega) rfl (Nat.le_of_ble_eq_true rfl) rfl (kV fun h3 n3 e3 => ?_) kN
    obtain ⟨q8, q7⟩ := e3; have q8 := q8.symm; have q7 := q7.symm; subst q8; subst q7
    exact r_return dJ26_init_6 rfl (⟨rfl, rfl⟩)
  · skip
    refine g_Met.of (M := mJ26_init) (L := [some (.ref i), some (.ref mp), some (.ref x)]) (by decide +kernel) (Nat.le_of_ble_eq_true rfl) rfl ?_
    refine r_aload0 dJ26_init_0 ?_
    refine r_aload1 dJ26_init_1 ?_
    refine r_aload2 dJ26_init_2 ?_
    refine r_callI (M' := mJ25_init) _ dJ26_init_3 q1725 q1726 rfl rfl rfl (lw_all_tbl q1727) q158 (by exact pl_J25_init)  ((k_J25_init T hb ho im (Or.inr ⟨_, rfl⟩))) (by omega) (Nat.le_of_ble_eq_true rfl) (by omega) (by omega) rfl (Nat.le_of_ble_eq_true rfl) rfl (kV fun h3 n3 e3 => ?_) kN
    obtain ⟨q8, q7⟩ := e3; have q8 := q8.symm; have q7 := q7.symm; subst q8; subst q7
    exact r_return dJ26_init_6 rfl (⟨rfl, rfl⟩)
theorem k_keyIterator {mp : Nat} {L : List c_N} {mc : Int32} {nk : Value} (T : tm K mp L mc nk h) : g_Met K mJ1_keyIterator 3 1 4 [.ref mp] h n (gA fun r h' n' => r = .ref n ∧ h' = g_up h n (g_ob 26 [hdV L, .null, .int mc, .ref mp]) ∧ n' = n + 1) gN := by
  refine g_Met.facts fun f1 f2 f3 => ?_
  have T0 := T
  obtain ⟨⟨t, hm, sN, -⟩, -⟩ := T
  have ll := f2 _ _ hm
  have lt : ∀ z ∈ L, z.1 ≠ n := by
    intro z hz
    obtain ⟨L1, L2, e⟩ := List.append_of_mem hz
    obtain ⟨j, A1, A2, B1, B2, l, r, q, c, -, -, ea, -⟩ := sN.foc (a := z.1) (kk := z.2.1) (v := z.2.2) e (k := 0) (A := []) (B := []) (t := t) ⟨rfl, rfl, rfl, rfl⟩
    have := f2 _ _ ea
    omega
  have T1 : tm K mp L mc nk (g_up h n (g_ob 26 [.null, .null, .int (nI 0), .null])) := T0.keep (g_un (by omega)) fun z hz => g_un (lt z hz)
  have hv := hdV_vr (L := L)
  have k5 := k_getFirst (n := n + 1) T1
  have k9 := k_J26_init (n := n + 1) (i := n) (e := hdV L) T1 f1 g_us (by omega) hv
  generalize hdV L = e0 at hv k5 k9 ⊢
  refine g_Met.of (M := mJ1_keyIterator) (L := [some (.ref mp)]) (by decide +kernel) (Nat.le_of_ble_eq_true rfl) rfl ?_
  rcases hv with rfl | ⟨x, rfl⟩
  · skip
    refine n_J1_269 dJ1_keyIterator_0 (by omega) (by omega) ?_
    refine r_dup dJ1_keyIterator_3 ?_
    refine r_aload0 dJ1_keyIterator_4 ?_
    refine r_aload0 dJ1_keyIterator_5 ?_
    refine r_callV (M' := mJ1_getFirstEntry) _ dJ1_keyIterator_6 q1718 q1719 q1720 rfl (lw_all_tbl q1721) q128 (by exact pl_J1_getFirstEntry) gc_J1 (by first | assumption | exact g_us | (rw [g_un (by omega)]; assumption) | (rw [g_un (by omega)]; exact g_us) | (rw [g_un (by omega), g_un (by omega)]; assumption) | (rw [g_un (by omega), g_un (by omega)]; exact g_us) | (rw [g_un (by omega), g_un (by omega), g_un (by omega)]; assumption) | ((repeat (rw [g_un (by omega)])); first | exact g_us | assumption)) (k5) (by omega) (Nat.le_of_ble_eq_true rfl) (by omega) (by omega) rfl (Nat.le_of_ble_eq_true rfl) rfl (kA fun r6 h6 n6 t6 e6 => ?_) kN
    obtain ⟨q9, q8, q7⟩ := e6; have q9 := q9.symm; have q8 := q8.symm; have q7 := q7.symm; subst q9; subst q8; subst q7
    refine r_callI (M' := mJ26_init) _ dJ1_keyIterator_9 q1722 q1723 rfl rfl rfl (lw_all_tbl q1724) q159 (by exact pl_J26_init)  (k9) (by omega) (Nat.le_of_ble_eq_true rfl) (by omega) (by omega) rfl (Nat.le_of_ble_eq_true rfl) rfl (kV fun h9 n9 e9 => ?_) kN
    obtain ⟨q8, q7⟩ := e9; have q8 := q8.symm; have q7 := q7.symm; subst q8; subst q7
    exact r_areturn dJ1_keyIterator_12 rfl (Or.inl ⟨_, rfl⟩) (Or.inr ⟨_, rfl⟩) (⟨rfl, by rw [g_up_up], rfl⟩)
  · skip
    refine n_J1_269 dJ1_keyIterator_0 (by omega) (by omega) ?_
    refine r_dup dJ1_keyIterator_3 ?_
    refine r_aload0 dJ1_keyIterator_4 ?_
    refine r_aload0 dJ1_keyIterator_5 ?_
    refine r_callV (M' := mJ1_getFirstEntry) _ dJ1_keyIterator_6 q1718 q1719 q1720 rfl (lw_all_tbl q1721) q128 (by exact pl_J1_getFirstEntry) gc_J1 (by first | assumption | exact g_us | (rw [g_un (by omega)]; assumption) | (rw [g_un (by omega)]; exact g_us) | (rw [g_un (by omega), g_un (by omega)]; assumption) | (rw [g_un (by omega), g_un (by omega)]; exact g_us) | (rw [g_un (by omega), g_un (by omega), g_un (by omega)]; assumption) | ((repeat (rw [g_un (by omega)])); first | exact g_us | assumption)) (k5) (by omega) (Nat.le_of_ble_eq_true rfl) (by omega) (by omega) rfl (Nat.le_of_ble_eq_true rfl) rfl (kA fun r6 h6 n6 t6 e6 => ?_) kN
    obtain ⟨q9, q8, q7⟩ := e6; have q9 := q9.symm; have q8 := q8.symm; have q7 := q7.symm; subst q9; subst q8; subst q7
    refine r_callI (M' := mJ26_init) _ dJ1_keyIterator_9 q1722 q1723 rfl rfl rfl (lw_all_tbl q1724) q159 (by exact pl_J26_init)  (k9) (by omega) (Nat.le_of_ble_eq_true rfl) (by omega) (by omega) rfl (Nat.le_of_ble_eq_true rfl) rfl (kV fun h9 n9 e9 => ?_) kN
    obtain ⟨q8, q7⟩ := e9; have q8 := q8.symm; have q7 := q7.symm; subst q8; subst q7
    exact r_areturn dJ1_keyIterator_12 rfl (Or.inl ⟨_, rfl⟩) (Or.inr ⟨_, rfl⟩) (⟨rfl, by rw [g_up_up], rfl⟩)
theorem k_J25_hasNext {i : Nat} {L : List c_N} {v1 v2 v3 : Value} (ho : h i = some (g_ob 26 [hdV L, v1, v2, v3])) : g_Met K mJ25_hasNext 0 0 0 [.ref i] h n (gI fun r h' n' => r = nB (L ≠ []) ∧ h' = h ∧ n' = n) gN := by
  refine g_Met.of (M := mJ25_hasNext) (L := [some (.ref i)]) (by decide +kernel) (Nat.le_of_ble_eq_true rfl) rfl ?_
  cases L with
  | nil =>
    have ho : h i = some (g_ob 26 [.null, v1, v2, v3]) := ho
    refine r_aload0 dJ25_hasNext_0 ?_
    refine f_J25_26_J26 dJ25_hasNext_1 (by first | assumption | exact g_us | (rw [g_un (by omega)]; assumption) | (rw [g_un (by omega)]; exact g_us) | (rw [g_un (by omega), g_un (by omega)]; assumption) | (rw [g_un (by omega), g_un (by omega)]; exact g_us) | (rw [g_un (by omega), g_un (by omega), g_un (by omega)]; assumption) | ((repeat (rw [g_un (by omega)])); first | exact g_us | assumption)) ?_
    refine r_ifnullZ (tgt := 11) dJ25_hasNext_4 (by decide) ?_
    refine r_iconst (v := nI 0) dJ25_hasNext_11 (by decide) ?_
    exact r_ireturn dJ25_hasNext_12 rfl (by first | exact nB_nar | rfl) (⟨nB_f (by simp), rfl, rfl⟩)
  | cons z L =>
    have ho : h i = some (g_ob 26 [.ref z.1, v1, v2, v3]) := ho
    refine r_aload0 dJ25_hasNext_0 ?_
    refine f_J25_26_J26 dJ25_hasNext_1 (by first | assumption | exact g_us | (rw [g_un (by omega)]; assumption) | (rw [g_un (by omega)]; exact g_us) | (rw [g_un (by omega), g_un (by omega)]; assumption) | (rw [g_un (by omega), g_un (by omega)]; exact g_us) | (rw [g_un (by omega), g_un (by omega), g_un (by omega)]; assumption) | ((repeat (rw [g_un (by omega)])); first | exact g_us | assumption)) ?_
    refine r_ifnull dJ25_hasNext_4 ?_
    refine r_iconst (v := nI 1) dJ25_hasNext_7 (by decide) ?_
    refine r_goto (tgt := 12) dJ25_hasNext_8 (by decide) ?_
    exact r_ireturn dJ25_hasNext_12 rfl (by first | exact nB_nar | rfl) (⟨nB_t (by simp), rfl, rfl⟩)
theorem k_nextEntry {i mp : Nat} {L1 L2 : List c_N} {kk v v1 nk : Value} {mc : Int32} (T : tm K mp (L1 ++ (a, kk, v) :: L2) mc nk h) (hb : k_b K ≤ i) (ho : h i = some (g_ob 26 [.ref a, v1, .int mc, .ref mp])) : g_Met K mJ25_nextEntry 1 0 0 [.ref i] h n (gA fun r h' n' => r = .ref a ∧ h' = g_up h i (g_ob 26 [hdV L2, .ref a, .int mc, .ref mp]) ∧ n' = n) gN := by
  have T0 := T
  obtain ⟨⟨t, hm, -⟩, -⟩ := T
  have hv := hdV_vr (L := L2)
  have k41 := k_successor (n := n) T0
  generalize hdV L2 = e0 at hv k41 ⊢
  refine g_Met.of (M := mJ25_nextEntry) (L := [some (.ref i), none]) (by decide +kernel) (Nat.le_of_ble_eq_true rfl) rfl ?_
  rcases hv with rfl | ⟨x, rfl⟩
  · skip
    refine r_aload0 dJ25_nextEntry_0 ?_
    refine f_J25_26_J26 dJ25_nextEntry_1 (by first | assumption | exact g_us | (rw [g_un (by omega)]; assumption) | (rw [g_un (by omega)]; exact g_us) | (rw [g_un (by omega), g_un (by omega)]; assumption) | (rw [g_un (by omega), g_un (by omega)]; exact g_us) | (rw [g_un (by omega), g_un (by omega), g_un (by omega)]; assumption) | ((repeat (rw [g_un (by omega)])); first | exact g_us | assumption)) ?_
    refine r_astore1 dJ25_nextEntry_4 ?_
    refine r_aload1 dJ25_nextEntry_5 ?_
    refine r_ifnonnull (tgt := 17) dJ25_nextEntry_6 (by decide) ?_
    refine r_aload0 dJ25_nextEntry_17 ?_
    refine f_J25_1_J26 dJ25_nextEntry_18 (by first | assumption | exact g_us | (rw [g_un (by omega)]; assumption) | (rw [g_un (by omega)]; exact g_us) | (rw [g_un (by omega), g_un (by omega)]; assumption) | (rw [g_un (by omega), g_un (by omega)]; exact g_us) | (rw [g_un (by omega), g_un (by omega), g_un (by omega)]; assumption) | ((repeat (rw [g_un (by omega)])); first | exact g_us | assumption)) ?_
    refine f_J25_13_J1 dJ25_nextEntry_21 (by first | assumption | exact g_us | (rw [g_un (by omega)]; assumption) | (rw [g_un (by omega)]; exact g_us) | (rw [g_un (by omega), g_un (by omega)]; assumption) | (rw [g_un (by omega), g_un (by omega)]; exact g_us) | (rw [g_un (by omega), g_un (by omega), g_un (by omega)]; assumption) | ((repeat (rw [g_un (by omega)])); first | exact g_us | assumption)) ?_
    refine r_aload0 dJ25_nextEntry_24 ?_
    refine f_J25_19_J26 dJ25_nextEntry_25 (by first | assumption | exact g_us | (rw [g_un (by omega)]; assumption) | (rw [g_un (by omega)]; exact g_us) | (rw [g_un (by omega), g_un (by omega)]; assumption) | (rw [g_un (by omega), g_un (by omega)]; exact g_us) | (rw [g_un (by omega), g_un (by omega), g_un (by omega)]; assumption) | ((repeat (rw [g_un (by omega)])); first | exact g_us | assumption)) ?_
    refine r_icmp_eq (tgt := 39) dJ25_nextEntry_28 (by decide) (fun c28 => ?_) (fun c28 => absurd (rfl) c28)
    refine r_aload0 dJ25_nextEntry_39 ?_
    refine r_aload1 dJ25_nextEntry_40 ?_
    refine r_callS (M' := mJ1_successor) _ dJ25_nextEntry_41 q1545 q1546 rfl (lw_all_tbl q1547) q128 (by exact pl_J1_successor)  (k41) (by omega) (Nat.le_of_ble_eq_true rfl) (by omega) (by omega) rfl (Nat.le_of_ble_eq_true rfl) rfl (kA fun r41 h41 n41 t41 e41 => ?_) kN
    obtain ⟨q9, q8, q7⟩ := e41; have q9 := q9.symm; have q8 := q8.symm; have q7 := q7.symm; subst q9; subst q8; subst q7
    refine p_J25_26_J26 dJ25_nextEntry_44 (by omega) (by first | assumption | exact g_us | (rw [g_un (by omega)]; assumption) | (rw [g_un (by omega)]; exact g_us) | (rw [g_un (by omega), g_un (by omega)]; assumption) | (rw [g_un (by omega), g_un (by omega)]; exact g_us) | (rw [g_un (by omega), g_un (by omega), g_un (by omega)]; assumption) | ((repeat (rw [g_un (by omega)])); first | exact g_us | assumption)) ?_
    refine r_aload0 dJ25_nextEntry_47 ?_
    refine r_aload1 dJ25_nextEntry_48 ?_
    refine p_J25_22_J26 dJ25_nextEntry_49 (by omega) g_us ?_
    refine r_aload1 dJ25_nextEntry_52 ?_
    exact r_areturn dJ25_nextEntry_53 rfl (Or.inl ⟨_, rfl⟩) (Or.inr ⟨_, rfl⟩) (⟨rfl, by rw [g_up_up], rfl⟩)
  · skip
    refine r_aload0 dJ25_nextEntry_0 ?_
    refine f_J25_26_J26 dJ25_nextEntry_1 (by first | assumption | exact g_us | (rw [g_un (by omega)]; assumption) | (rw [g_un (by omega)]; exact g_us) | (rw [g_un (by omega), g_un (by omega)]; assumption) | (rw [g_un (by omega), g_un (by omega)]; exact g_us) | (rw [g_un (by omega), g_un (by omega), g_un (by omega)]; assumption) | ((repeat (rw [g_un (by omega)])); first | exact g_us | assumption)) ?_
    refine r_astore1 dJ25_nextEntry_4 ?_
    refine r_aload1 dJ25_nextEntry_5 ?_
    refine r_ifnonnull (tgt := 17) dJ25_nextEntry_6 (by decide) ?_
    refine r_aload0 dJ25_nextEntry_17 ?_
    refine f_J25_1_J26 dJ25_nextEntry_18 (by first | assumption | exact g_us | (rw [g_un (by omega)]; assumption) | (rw [g_un (by omega)]; exact g_us) | (rw [g_un (by omega), g_un (by omega)]; assumption) | (rw [g_un (by omega), g_un (by omega)]; exact g_us) | (rw [g_un (by omega), g_un (by omega), g_un (by omega)]; assumption) | ((repeat (rw [g_un (by omega)])); first | exact g_us | assumption)) ?_
    refine f_J25_13_J1 dJ25_nextEntry_21 (by first | assumption | exact g_us | (rw [g_un (by omega)]; assumption) | (rw [g_un (by omega)]; exact g_us) | (rw [g_un (by omega), g_un (by omega)]; assumption) | (rw [g_un (by omega), g_un (by omega)]; exact g_us) | (rw [g_un (by omega), g_un (by omega), g_un (by omega)]; assumption) | ((repeat (rw [g_un (by omega)])); first | exact g_us | assumption)) ?_
    refine r_aload0 dJ25_nextEntry_24 ?_
    refine f_J25_19_J26 dJ25_nextEntry_25 (by first | assumption | exact g_us | (rw [g_un (by omega)]; assumption) | (rw [g_un (by omega)]; exact g_us) | (rw [g_un (by omega), g_un (by omega)]; assumption) | (rw [g_un (by omega), g_un (by omega)]; exact g_us) | (rw [g_un (by omega), g_un (by omega), g_un (by omega)]; assumption) | ((repeat (rw [g_un (by omega)])); first | exact g_us | assumption)) ?_
    refine r_icmp_eq (tgt := 39) dJ25_nextEntry_28 (by decide) (fun c28 => ?_) (fun c28 => absurd (rfl) c28)
    refine r_aload0 dJ25_nextEntry_39 ?_
    refine r_aload1 dJ25_nextEntry_40 ?_
    refine r_callS (M' := mJ1_successor) _ dJ25_nextEntry_41 q1545 q1546 rfl (lw_all_tbl q1547) q128 (by exact pl_J1_successor)  (k41) (by omega) (Nat.le_of_ble_eq_true rfl) (by omega) (by omega) rfl (Nat.le_of_ble_eq_true rfl) rfl (kA fun r41 h41 n41 t41 e41 => ?_) kN
    obtain ⟨q9, q8, q7⟩ := e41; have q9 := q9.symm; have q8 := q8.symm; have q7 := q7.symm; subst q9; subst q8; subst q7
    refine p_J25_26_J26 dJ25_nextEntry_44 (by omega) (by first | assumption | exact g_us | (rw [g_un (by omega)]; assumption) | (rw [g_un (by omega)]; exact g_us) | (rw [g_un (by omega), g_un (by omega)]; assumption) | (rw [g_un (by omega), g_un (by omega)]; exact g_us) | (rw [g_un (by omega), g_un (by omega), g_un (by omega)]; assumption) | ((repeat (rw [g_un (by omega)])); first | exact g_us | assumption)) ?_
    refine r_aload0 dJ25_nextEntry_47 ?_
    refine r_aload1 dJ25_nextEntry_48 ?_
    refine p_J25_22_J26 dJ25_nextEntry_49 (by omega) g_us ?_
    refine r_aload1 dJ25_nextEntry_52 ?_
    exact r_areturn dJ25_nextEntry_53 rfl (Or.inl ⟨_, rfl⟩) (Or.inr ⟨_, rfl⟩) (⟨rfl, by rw [g_up_up], rfl⟩)
theorem k_J26_next {i mp : Nat} {L1 L2 : List c_N} {kk v v1 nk : Value} {mc : Int32} (T : tm K mp (L1 ++ (a, kk, v) :: L2) mc nk h) (hb : k_b K ≤ i) (ho : h i = some (g_ob 26 [.ref a, v1, .int mc, .ref mp])) (hk : kk = .null ∨ ∃ x, kk = .ref x) : g_Met K mJ26_next 2 0 0 [.ref i] h n (gA fun r h' n' => r = kk ∧ h' = g_up h i (g_ob 26 [hdV L2, .ref a, .int mc, .ref mp]) ∧ n' = n) gN := by
  have T0 := T
  obtain ⟨⟨t, hm, sN, -⟩, -⟩ := T
  obtain ⟨j, A1, A2, B1, B2, l, r, q, cc, rfl, rfl, ea, s1, s2, c⟩ := sN.foc rfl (k := 0) (A := []) (B := []) (t := t) ⟨rfl, rfl, rfl, rfl⟩
  have ia : a ≠ i := fun e => by rw [e, ho] at ea; simp [g_ob] at ea
  refine g_Met.of (M := mJ26_next) (L := [some (.ref i)]) (by decide +kernel) (Nat.le_of_ble_eq_true rfl) rfl ?_
  refine r_aload0 dJ26_next_0 ?_
  refine r_callVU (M' := mJ25_nextEntry) _ dJ26_next_1 q1537 q1538 (Or.inl ⟨q1541, _, _, _, q1542⟩) ⟨by decide, by decide⟩ q1540 q1541 rfl (lw_all_tbl q1542) q158 (by exact (⟨by decide, by decide, by decide +kernel⟩ : g_pl ⟨"java/util/TreeMap$KeyIterator", "nextEntry", "()Ljava/util/TreeMap$Entry;"⟩ 0)) gc_J26 (by first | assumption | exact g_us | (rw [g_un (by omega)]; assumption) | (rw [g_un (by omega)]; exact g_us) | (rw [g_un (by omega), g_un (by omega)]; assumption) | (rw [g_un (by omega), g_un (by omega)]; exact g_us) | (rw [g_un (by omega), g_un (by omega), g_un (by omega)]; assumption) | ((repeat (rw [g_un (by omega)])); first | exact g_us | assumption)) ((k_nextEntry T0 hb ho)) (by omega) (Nat.le_of_ble_eq_true rfl) (by omega) (by omega) rfl (Nat.le_of_ble_eq_true rfl) rfl (kA fun r1 h1 n1 t1 e1 => ?_) kN
  obtain ⟨q9, q8, q7⟩ := e1; have q9 := q9.symm; have q8 := q8.symm; have q7 := q7.symm; subst q9; subst q8; subst q7
  refine f_J26_13_J21 dJ26_next_4 (by rw [g_un ia]; exact ea) ?_
  exact r_areturn dJ26_next_7 rfl (Or.inl ⟨_, rfl⟩) hk (⟨rfl, rfl, rfl⟩)
end
