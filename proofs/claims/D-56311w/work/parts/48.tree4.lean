/-! TreeMap: put (printed by gen_tree4.py) -/
set_option maxRecDepth 100000
section
variable {K : g_K} {a n : Nat} {h : g_P}

theorem k_addEntryL {mp kx vx j : Nat} {A B U N N0 : List c_N} {t o q kp vp nk : Value} {mc : Int32} {c : Bool} (eN0 : N0 = A ++ ((a, kp, vp) :: (U ++ B))) (eN : N = A ++ ((n, .ref kx, .ref vx) :: ((a, kp, vp) :: (U ++ B)))) (T : tm K mp N0 mc nk h) (hm : h mp = some (trM t (.int (nI N0.length)) (.int mc) nk)) (bm : k_b K ≤ mp) (cc : ctx h j A B (.ref a) q t) (ep : h a = some (nC kp vp .null o q c)) (so : sg h U o (.ref a)) : g_Met K mJ1_addEntry 3 1 6 [.ref mp, .ref kx, .ref vx, .ref a, .int (nI 1)] h n (gV fun h' n' => tm K mp N (mc + nI 1) nk h' ∧ fr h h' mp N ∧ n' = n + 1) gN := by
  refine g_Met.facts fun f1 f2 f3 => ?_
  obtain ⟨⟨t0, hm0, sN, rb⟩, nd, nmp, bN⟩ := T
  have et : t0 = t := by
    have := hm0.symm.trans hm
    simp [g_ob] at this
    exact this
  subst et
  have lt : ∀ z ∈ N0, z.1 < n := by
    intro z hz
    obtain ⟨L1, L2, e⟩ := List.append_of_mem hz
    obtain ⟨j, A1, A2, B1, B2, l, r, q, c, -, -, ea, -⟩ := sN.foc (a := z.1) (kk := z.2.1) (v := z.2.2) e (k := 0) (A := []) (B := []) (t := t0) ⟨rfl, rfl, rfl, rfl⟩
    exact f2 _ _ ea
  have lm := f2 _ _ hm
  have ha0 : (a, kp, vp) ∈ N0 := by rw [eN0]; simp
  have ba := bN _ ha0
  have la := lt _ ha0
  have am := nmp _ ha0
  have nd0 := nd
  rw [eN0] at nd0
  have hall : ∀ z ∈ A ++ (U ++ B), z ∈ N0 := fun z hz => by
    rw [eN0]
    rcases List.mem_append.mp hz with q | q
    · simp [q]
    · rcases List.mem_append.mp q with q | q <;> simp [q]
  have np : ∀ z ∈ A ++ (U ++ B), z.1 ≠ a := fun z hz => nd_ne (A := A) (B := U ++ B) nd0 z hz
  have hn : ∀ z ∈ A ++ (U ++ B), z.1 ≠ n := fun z hz => by have := lt z (hall z hz); omega
  have hmem : ∀ z, z ∈ N ↔ z = (n, .ref kx, .ref vx) ∨ z ∈ N0 := fun z => by rw [eN, eN0]; simp; grind
  have hlen : N.length = N0.length + 1 := by rw [eN, eN0]; simp; omega
  have nd2 : (N.map Prod.fst).Nodup := by
    have hp : N.Perm ((n, .ref kx, .ref vx) :: N0) := by
      rw [eN, eN0]
      exact List.perm_middle
    rw [(hp.map Prod.fst).nodup_iff, List.map_cons, List.nodup_cons]
    exact ⟨fun e => by obtain ⟨z, hz, e⟩ := List.mem_map.mp e; have := lt z hz; dsimp only at e; omega, nd⟩
  have fa : ∀ z ∈ N, k_b K ≤ z.1 := fun z hz => by rcases (hmem z).mp hz with rfl | z2; exact f1; exact bN z z2
  have nm2 : ∀ z ∈ N, z.1 ≠ mp := fun z hz => by
    rcases (hmem z).mp hz with rfl | z2
    · show n ≠ mp; omega
    · exact nmp z z2
  refine g_Met.of (M := mJ1_addEntry) (L := [some (.ref mp), some (.ref kx), some (.ref vx), some (.ref a), some (.int (nI 1)), none]) (by decide +kernel) (Nat.le_of_ble_eq_true rfl) rfl ?_
  refine n_J1_59 dJ1_addEntry_0 (by omega) (by omega) ?_
  refine r_dup dJ1_addEntry_3 ?_
  refine r_aload1 dJ1_addEntry_4 ?_
  refine r_aload2 dJ1_addEntry_5 ?_
  refine r_aload3 dJ1_addEntry_6 ?_
  refine r_callI (M' := mJ21_init) _ dJ1_addEntry_7 q2002 q2003 rfl rfl rfl (lw_all_tbl q2004) q154 (by exact pl_J21_init)  ((k_J21_init (a := n) f1 g_us (Or.inr ⟨_, rfl⟩))) (by omega) (Nat.le_of_ble_eq_true rfl) (by omega) (by omega) rfl (Nat.le_of_ble_eq_true rfl) rfl (kV fun h7 n7 e7 => ?_) kN
  obtain ⟨rfl, rfl⟩ := e7
  refine r_astore5 dJ1_addEntry_10 ?_
  refine r_iload4 dJ1_addEntry_12 ?_
  refine r_if_eqN (tgt := 26) dJ1_addEntry_14 (by decide) (by omega) (fun c14 => absurd c14 (by omega)) (fun c14 => ?_)
  refine r_aload3 dJ1_addEntry_17 ?_
  refine r_aload5 dJ1_addEntry_18 ?_
  refine p_J1_111_J21 dJ1_addEntry_20 (by omega) (by rw [g_un (by omega), g_un (by omega)]; exact ep) ?_
  refine r_goto (tgt := 32) dJ1_addEntry_23 (by decide) ?_
  generalize hh : g_up (g_up (g_up h n _) n (nC (.ref kx) (.ref vx) .null .null (.ref a) true)) a _ = h2
  rw [g_up_up] at hh
  obtain ⟨c2, en⟩ := hang (s := false) (j := j) (A := A) (B := B) (U := U) (t := t0) (p := a) (n := n) (kp := kp) (vp := vp) (o := o) (q := q) (kx := .ref kx) (vx := .ref vx) (c := c) hn (by omega) np cc so hh.symm
  have hm2 : h2 mp = some (trM t0 (.int (nI N0.length)) (.int mc) nk) := by rw [← hh, g_un (Ne.symm am), g_un (by omega)]; exact hm
  have rb2 : rbk h2 t0 n := by
    intro x kk v l r q' c' e1 e2 e3
    rw [← hh] at e3
    by_cases z : x = a
    · subst z
      rw [g_us] at e3
      have := rb _ _ _ _ _ _ _ e1 ep
      subst this
      exact col_t e3
    · rw [g_un z, g_un e2] at e3
      exact rb _ _ _ _ _ _ _ e1 e3
  refine r_aload0 dJ1_addEntry_32 ?_
  refine r_aload5 dJ1_addEntry_33 ?_
  refine r_callV (M' := mJ1_fixAfterInsertion) _ dJ1_addEntry_35 q2034 q2036 qs26 rfl (lw_all_tbl q2037) q128 (by exact pl_J1_fixAfterInsertion) gc_J1 (by first | assumption | exact g_us | (rw [g_un (by omega)]; assumption) | (rw [g_un (by omega)]; exact g_us) | (rw [g_un (by omega), g_un (by omega)]; assumption) | (rw [g_un (by omega), g_un (by omega)]; exact g_us) | (rw [g_un (by omega), g_un (by omega), g_un (by omega)]; assumption) | ((repeat (rw [g_un (by omega)])); first | exact g_us | assumption)) ((k_fix (h := h2) (N := N) bm fa nd2 nm2 hm2 c2 en rb2 (by rw [eN]; simp))) (by omega) (Nat.le_of_ble_eq_true rfl) (by omega) (by omega) rfl (Nat.le_of_ble_eq_true rfl) rfl (kV fun h35 n35 e35 => ?_) kN
  obtain ⟨⟨t3, hm3, s3, rb3⟩, fr3, rfl⟩ := e35
  refine r_aload0 dJ1_addEntry_38 ?_
  refine r_dup dJ1_addEntry_39 ?_
  refine f_J1_7_J1 dJ1_addEntry_40 hm3 ?_
  refine r_iconst (v := nI 1) dJ1_addEntry_43 (by decide) ?_
  refine r_iadd dJ1_addEntry_44 (by first | exact nI_add _ _ | rfl) ?_
  refine p_J1_7_J1 dJ1_addEntry_45 (by omega) (by first | assumption | exact g_us | (rw [g_un (by omega)]; assumption) | (rw [g_un (by omega)]; exact g_us) | (rw [g_un (by omega), g_un (by omega)]; assumption) | (rw [g_un (by omega), g_un (by omega)]; exact g_us) | (rw [g_un (by omega), g_un (by omega), g_un (by omega)]; assumption) | ((repeat (rw [g_un (by omega)])); first | exact g_us | assumption)) ?_
  refine r_aload0 dJ1_addEntry_48 ?_
  refine r_dup dJ1_addEntry_49 ?_
  refine f_J1_13_J1 dJ1_addEntry_50 g_us ?_
  refine r_iconst (v := nI 1) dJ1_addEntry_53 (by decide) ?_
  refine r_iadd dJ1_addEntry_54 (by first | exact nI_add _ _ | rfl) ?_
  refine p_J1_13_J1 dJ1_addEntry_55 (by omega) (by first | assumption | exact g_us | (rw [g_un (by omega)]; assumption) | (rw [g_un (by omega)]; exact g_us) | (rw [g_un (by omega), g_un (by omega)]; assumption) | (rw [g_un (by omega), g_un (by omega)]; exact g_us) | (rw [g_un (by omega), g_un (by omega), g_un (by omega)]; assumption) | ((repeat (rw [g_un (by omega)])); first | exact g_us | assumption)) ?_
  exact r_return dJ1_addEntry_58 rfl (⟨⟨⟨t3, by rw [g_us]; rw [hlen], (s3.up nm2).up nm2, fun x kk v l r q' c' e1 e2 => by
        subst e1
        obtain ⟨k9, v9, l9, r9, c9, A9, B9, eq9, e9, -⟩ := s3.mem
        have z9 : x ≠ mp := nm2 (x, k9, v9) (by rw [eq9]; simp)
        rw [g_un z9, g_un z9] at e2
        exact rb3 _ _ _ _ _ _ _ rfl e2⟩, nd2, nm2, fa⟩, fun z z1 z2 => by
        rw [g_un z1, g_un z1, fr3 z z1 z2, ← hh, g_un (fun e => z2 _ ((hmem _).mpr (Or.inr ha0)) e.symm), g_un (fun e => z2 _ ((hmem _).mpr (Or.inl rfl)) e.symm)], rfl⟩)

theorem k_addEntryR {mp kx vx j : Nat} {A B U N N0 : List c_N} {t o q kp vp nk : Value} {mc : Int32} {c : Bool} (eN0 : N0 = A ++ (U ++ ((a, kp, vp) :: B))) (eN : N = (A ++ (U ++ [(a, kp, vp)])) ++ ((n, .ref kx, .ref vx) :: B)) (T : tm K mp N0 mc nk h) (hm : h mp = some (trM t (.int (nI N0.length)) (.int mc) nk)) (bm : k_b K ≤ mp) (cc : ctx h j A B (.ref a) q t) (ep : h a = some (nC kp vp o .null q c)) (so : sg h U o (.ref a)) : g_Met K mJ1_addEntry 3 1 6 [.ref mp, .ref kx, .ref vx, .ref a, .int (nI 0)] h n (gV fun h' n' => tm K mp N (mc + nI 1) nk h' ∧ fr h h' mp N ∧ n' = n + 1) gN := by
  refine g_Met.facts fun f1 f2 f3 => ?_
  obtain ⟨⟨t0, hm0, sN, rb⟩, nd, nmp, bN⟩ := T
  have et : t0 = t := by
    have := hm0.symm.trans hm
    simp [g_ob] at this
    exact this
  subst et
  have lt : ∀ z ∈ N0, z.1 < n := by
    intro z hz
    obtain ⟨L1, L2, e⟩ := List.append_of_mem hz
    obtain ⟨j, A1, A2, B1, B2, l, r, q, c, -, -, ea, -⟩ := sN.foc (a := z.1) (kk := z.2.1) (v := z.2.2) e (k := 0) (A := []) (B := []) (t := t0) ⟨rfl, rfl, rfl, rfl⟩
    exact f2 _ _ ea
  have lm := f2 _ _ hm
  have ha0 : (a, kp, vp) ∈ N0 := by rw [eN0]; simp
  have ba := bN _ ha0
  have la := lt _ ha0
  have am := nmp _ ha0
  have nd0 := nd
  rw [eN0] at nd0
  have hall : ∀ z ∈ A ++ (U ++ B), z ∈ N0 := fun z hz => by
    rw [eN0]
    rcases List.mem_append.mp hz with q | q
    · simp [q]
    · rcases List.mem_append.mp q with q | q <;> simp [q]
  have np : ∀ z ∈ A ++ (U ++ B), z.1 ≠ a := fun z hz => nd_ne (A := A ++ U) (B := B) (kk := kp) (v := vp) (by simpa using nd0) z (by simpa using hz)
  have hn : ∀ z ∈ A ++ (U ++ B), z.1 ≠ n := fun z hz => by have := lt z (hall z hz); omega
  have hmem : ∀ z, z ∈ N ↔ z = (n, .ref kx, .ref vx) ∨ z ∈ N0 := fun z => by rw [eN, eN0]; simp; grind
  have hlen : N.length = N0.length + 1 := by rw [eN, eN0]; simp; omega
  have nd2 : (N.map Prod.fst).Nodup := by
    have hp : N.Perm ((n, .ref kx, .ref vx) :: N0) := by
      rw [eN, eN0]
      simpa using (List.perm_middle (a := (n, Value.ref kx, Value.ref vx)) (l₁ := A ++ (U ++ [(a, kp, vp)])) (l₂ := B))
    rw [(hp.map Prod.fst).nodup_iff, List.map_cons, List.nodup_cons]
    exact ⟨fun e => by obtain ⟨z, hz, e⟩ := List.mem_map.mp e; have := lt z hz; dsimp only at e; omega, nd⟩
  have fa : ∀ z ∈ N, k_b K ≤ z.1 := fun z hz => by rcases (hmem z).mp hz with rfl | z2; exact f1; exact bN z z2
  have nm2 : ∀ z ∈ N, z.1 ≠ mp := fun z hz => by
    rcases (hmem z).mp hz with rfl | z2
    · show n ≠ mp; omega
    · exact nmp z z2
  refine g_Met.of (M := mJ1_addEntry) (L := [some (.ref mp), some (.ref kx), some (.ref vx), some (.ref a), some (.int (nI 0)), none]) (by decide +kernel) (Nat.le_of_ble_eq_true rfl) rfl ?_
  refine n_J1_59 dJ1_addEntry_0 (by omega) (by omega) ?_
  refine r_dup dJ1_addEntry_3 ?_
  refine r_aload1 dJ1_addEntry_4 ?_
  refine r_aload2 dJ1_addEntry_5 ?_
  refine r_aload3 dJ1_addEntry_6 ?_
  refine r_callI (M' := mJ21_init) _ dJ1_addEntry_7 q2002 q2003 rfl rfl rfl (lw_all_tbl q2004) q154 (by exact pl_J21_init)  ((k_J21_init (a := n) f1 g_us (Or.inr ⟨_, rfl⟩))) (by omega) (Nat.le_of_ble_eq_true rfl) (by omega) (by omega) rfl (Nat.le_of_ble_eq_true rfl) rfl (kV fun h7 n7 e7 => ?_) kN
  obtain ⟨rfl, rfl⟩ := e7
  refine r_astore5 dJ1_addEntry_10 ?_
  refine r_iload4 dJ1_addEntry_12 ?_
  refine r_if_eqN (tgt := 26) dJ1_addEntry_14 (by decide) (by omega) (fun c14 => ?_) (fun c14 => absurd c14 (by omega))
  refine r_aload3 dJ1_addEntry_26 ?_
  refine r_aload5 dJ1_addEntry_27 ?_
  refine p_J1_114_J21 dJ1_addEntry_29 (by omega) (by rw [g_un (by omega), g_un (by omega)]; exact ep) ?_
  generalize hh : g_up (g_up (g_up h n _) n (nC (.ref kx) (.ref vx) .null .null (.ref a) true)) a _ = h2
  rw [g_up_up] at hh
  obtain ⟨c2, en⟩ := hang (s := true) (j := j) (A := A) (B := B) (U := U) (t := t0) (p := a) (n := n) (kp := kp) (vp := vp) (o := o) (q := q) (kx := .ref kx) (vx := .ref vx) (c := c) hn (by omega) np cc so hh.symm
  have hm2 : h2 mp = some (trM t0 (.int (nI N0.length)) (.int mc) nk) := by rw [← hh, g_un (Ne.symm am), g_un (by omega)]; exact hm
  have rb2 : rbk h2 t0 n := by
    intro x kk v l r q' c' e1 e2 e3
    rw [← hh] at e3
    by_cases z : x = a
    · subst z
      rw [g_us] at e3
      have := rb _ _ _ _ _ _ _ e1 ep
      subst this
      exact col_t e3
    · rw [g_un z, g_un e2] at e3
      exact rb _ _ _ _ _ _ _ e1 e3
  refine r_aload0 dJ1_addEntry_32 ?_
  refine r_aload5 dJ1_addEntry_33 ?_
  refine r_callV (M' := mJ1_fixAfterInsertion) _ dJ1_addEntry_35 q2034 q2036 qs26 rfl (lw_all_tbl q2037) q128 (by exact pl_J1_fixAfterInsertion) gc_J1 (by first | assumption | exact g_us | (rw [g_un (by omega)]; assumption) | (rw [g_un (by omega)]; exact g_us) | (rw [g_un (by omega), g_un (by omega)]; assumption) | (rw [g_un (by omega), g_un (by omega)]; exact g_us) | (rw [g_un (by omega), g_un (by omega), g_un (by omega)]; assumption) | ((repeat (rw [g_un (by omega)])); first | exact g_us | assumption)) ((k_fix (h := h2) (N := N) bm fa nd2 nm2 hm2 c2 en rb2 (by rw [eN]; simp))) (by omega) (Nat.le_of_ble_eq_true rfl) (by omega) (by omega) rfl (Nat.le_of_ble_eq_true rfl) rfl (kV fun h35 n35 e35 => ?_) kN
  obtain ⟨⟨t3, hm3, s3, rb3⟩, fr3, rfl⟩ := e35
  refine r_aload0 dJ1_addEntry_38 ?_
  refine r_dup dJ1_addEntry_39 ?_
  refine f_J1_7_J1 dJ1_addEntry_40 hm3 ?_
  refine r_iconst (v := nI 1) dJ1_addEntry_43 (by decide) ?_
  refine r_iadd dJ1_addEntry_44 (by first | exact nI_add _ _ | rfl) ?_
  refine p_J1_7_J1 dJ1_addEntry_45 (by omega) (by first | assumption | exact g_us | (rw [g_un (by omega)]; assumption) | (rw [g_un (by omega)]; exact g_us) | (rw [g_un (by omega), g_un (by omega)]; assumption) | (rw [g_un (by omega), g_un (by omega)]; exact g_us) | (rw [g_un (by omega), g_un (by omega), g_un (by omega)]; assumption) | ((repeat (rw [g_un (by omega)])); first | exact g_us | assumption)) ?_
  refine r_aload0 dJ1_addEntry_48 ?_
  refine r_dup dJ1_addEntry_49 ?_
  refine f_J1_13_J1 dJ1_addEntry_50 g_us ?_
  refine r_iconst (v := nI 1) dJ1_addEntry_53 (by decide) ?_
  refine r_iadd dJ1_addEntry_54 (by first | exact nI_add _ _ | rfl) ?_
  refine p_J1_13_J1 dJ1_addEntry_55 (by omega) (by first | assumption | exact g_us | (rw [g_un (by omega)]; assumption) | (rw [g_un (by omega)]; exact g_us) | (rw [g_un (by omega), g_un (by omega)]; assumption) | (rw [g_un (by omega), g_un (by omega)]; exact g_us) | (rw [g_un (by omega), g_un (by omega), g_un (by omega)]; assumption) | ((repeat (rw [g_un (by omega)])); first | exact g_us | assumption)) ?_
  exact r_return dJ1_addEntry_58 rfl (⟨⟨⟨t3, by rw [g_us]; rw [hlen], (s3.up nm2).up nm2, fun x kk v l r q' c' e1 e2 => by
        subst e1
        obtain ⟨k9, v9, l9, r9, c9, A9, B9, eq9, e9, -⟩ := s3.mem
        have z9 : x ≠ mp := nm2 (x, k9, v9) (by rw [eq9]; simp)
        rw [g_un z9, g_un z9] at e2
        exact rb3 _ _ _ _ _ _ _ rfl e2⟩, nd2, nm2, fa⟩, fun z z1 z2 => by
        rw [g_un z1, g_un z1, fr3 z z1 z2, ← hh, g_un (fun e => z2 _ ((hmem _).mpr (Or.inr ha0)) e.symm), g_un (fun e => z2 _ ((hmem _).mpr (Or.inl rfl)) e.symm)], rfl⟩)

theorem k_addEmpty {b : Bool} {mp kx vx : Nat} {z : Int} {mc : Int32} {nk : Value} (bm : k_b K ≤ mp) (T : tm K mp [] mc nk h) (kx0 : kyc b h (.ref kx) z) : g_Met K mJ1_addEntryToEmptyMap 5 1 6 [.ref mp, .ref kx, .ref vx] h n (gV fun h' n' => tm K mp [(n, .ref kx, .ref vx)] (mc + nI 1) nk h' ∧ fr h h' mp [(n, .ref kx, .ref vx)] ∧ n' = n + 1) gN := by
  refine g_Met.facts fun f1 f2 f3 => ?_
  have T0 := T
  obtain ⟨⟨t, hm, sN, -⟩, -⟩ := T
  have lm := f2 _ _ hm
  refine g_Met.of (M := mJ1_addEntryToEmptyMap) (L := [some (.ref mp), some (.ref kx), some (.ref vx)]) (by decide +kernel) (Nat.le_of_ble_eq_true rfl) rfl ?_
  refine r_aload0 dJ1_addEntryToEmptyMap_0 ?_
  refine r_aload1 dJ1_addEntryToEmptyMap_1 ?_
  refine r_aload1 dJ1_addEntryToEmptyMap_2 ?_
  refine r_callV (M' := mJ1_compare) _ dJ1_addEntryToEmptyMap_3 q1996 q1997 q1998 rfl (lw_all_tbl q1999) q128 (by exact pl_J1_compare) gc_J1 (by first | assumption | exact g_us | (rw [g_un (by omega)]; assumption) | (rw [g_un (by omega)]; exact g_us) | (rw [g_un (by omega), g_un (by omega)]; assumption) | (rw [g_un (by omega), g_un (by omega)]; exact g_us) | (rw [g_un (by omega), g_un (by omega), g_un (by omega)]; assumption) | ((repeat (rw [g_un (by omega)])); first | exact g_us | assumption)) ((k_cmp1 T0 kx0)) (by omega) (Nat.le_of_ble_eq_true rfl) (by omega) (by omega) rfl (Nat.le_of_ble_eq_true rfl) rfl (kI fun r3 h3 n3 e3 => ?_) kN
  obtain ⟨rfl, rfl, rfl⟩ := e3
  refine r_pop dJ1_addEntryToEmptyMap_6 ?_
  refine r_aload0 dJ1_addEntryToEmptyMap_7 ?_
  refine n_J1_59 dJ1_addEntryToEmptyMap_8 (by omega) (by omega) ?_
  refine r_dup dJ1_addEntryToEmptyMap_11 ?_
  refine r_aload1 dJ1_addEntryToEmptyMap_12 ?_
  refine r_aload2 dJ1_addEntryToEmptyMap_13 ?_
  refine r_null dJ1_addEntryToEmptyMap_14 ?_
  refine r_callI (M' := mJ21_init) _ dJ1_addEntryToEmptyMap_15 q2002 q2003 rfl rfl rfl (lw_all_tbl q2004) q154 (by exact pl_J21_init)  ((k_J21_init (a := n) f1 g_us (Or.inl rfl))) (by omega) (Nat.le_of_ble_eq_true rfl) (by omega) (by omega) rfl (Nat.le_of_ble_eq_true rfl) rfl (kV fun h15 n15 e15 => ?_) kN
  obtain ⟨rfl, rfl⟩ := e15
  refine p_J1_101_J1 dJ1_addEntryToEmptyMap_18 (by omega) (by rw [g_un (by omega), g_un (by omega)]; exact hm) ?_
  refine r_aload0 dJ1_addEntryToEmptyMap_21 ?_
  refine r_iconst (v := nI 1) dJ1_addEntryToEmptyMap_22 (by decide) ?_
  refine p_J1_7_J1 dJ1_addEntryToEmptyMap_23 (by omega) g_us ?_
  refine r_aload0 dJ1_addEntryToEmptyMap_26 ?_
  refine r_dup dJ1_addEntryToEmptyMap_27 ?_
  refine f_J1_13_J1 dJ1_addEntryToEmptyMap_28 g_us ?_
  refine r_iconst (v := nI 1) dJ1_addEntryToEmptyMap_31 (by decide) ?_
  refine r_iadd dJ1_addEntryToEmptyMap_32 (by first | exact nI_add _ _ | rfl) ?_
  refine p_J1_13_J1 dJ1_addEntryToEmptyMap_33 (by omega) g_us ?_
  exact r_return dJ1_addEntryToEmptyMap_36 rfl (⟨⟨⟨.ref n, by rw [g_us]; rfl, sg.node (A := []) (B := []) (c := true) (by rw [g_un (by omega), g_un (by omega), g_un (by omega), g_us]) sg.nil sg.nil, fun x kk v l r q c e1 e2 => by cases e1; rw [g_un (by omega), g_un (by omega), g_un (by omega), g_us] at e2; exact col_t e2⟩, by simp, fun z hz => by simp at hz; rw [hz]; show n ≠ mp; omega, fun z hz => by simp at hz; rw [hz]; exact f1⟩, fun z z1 z2 => by
        have z3 : z ≠ n := fun e => z2 (n, .ref kx, .ref vx) (by simp) e.symm
        rw [g_un z1, g_un z1, g_un z1, g_un z3, g_un z3], rfl⟩)
theorem k_putNew {b : Bool} {mp kx vx : Nat} {L1 L2 : List c_N} {mc : Int32} {nk : Value} {ky : Value → Int} (bm : k_b K ≤ mp) (T : tm K mp (L1 ++ L2) mc nk h) (hk : ∀ z ∈ L1 ++ L2, kyc b h z.2.1 (ky z.2.1)) (s1 : ∀ z ∈ L1, ky z.2.1 < ky (.ref kx)) (s2 : ∀ z ∈ L2, ky (.ref kx) < ky z.2.1) (kx0 : kyc b h (.ref kx) (ky (.ref kx))) : g_Met K mJ1_put_2 6 1 6 [.ref mp, .ref kx, .ref vx, .int (nI 1)] h n (gA fun r h' n' => r = .null ∧ tm K mp (L1 ++ (n, .ref kx, .ref vx) :: L2) (mc + nI 1) nk h' ∧ fr h h' mp (L1 ++ (n, .ref kx, .ref vx) :: L2) ∧ n' = n + 1) gN := by
  have T0 := T
  obtain ⟨⟨t, hm, ⟨f0, sN⟩, rb⟩, nd, -, -⟩ := T
  have loop : ∀ (f j : Nat) (A M B : List c_N) (y : Nat) (q : Value) (o5 o6 o9 : Option Value), seg h f M (.ref y) q → ctx h j A B (.ref y) q t → A ++ (M ++ B) = L1 ++ L2 → (∀ z ∈ A, ky z.2.1 < ky (.ref kx)) → (∀ z ∈ B, ky (.ref kx) < ky z.2.1) → g_c1 o5 → g_c1 o6 → g_G K mJ1_put_2 6 1 6 (gA fun r h' n' => r = .null ∧ tm K mp (L1 ++ (n, .ref kx, .ref vx) :: L2) (mc + nI 1) nk h' ∧ fr h h' mp (L1 ++ (n, .ref kx, .ref vx) :: L2) ∧ n' = n + 1) gN 123 [some (.ref mp), some (.ref kx), some (.ref vx), some (.int (nI 1)), some (.ref y), o5, o6, some .null, some (.ref kx), o9] [] h n := by
    intro f
    induction f with
    | zero => intro j A M B y q o5 o6 o9 s; obtain ⟨-, e⟩ := s; cases e
    | succ f ih =>
      intro j A M B y q o5 o6 o9 s c eL iA iB g5 g6
      rcases s with ⟨-, e⟩ | ⟨U, V, c9, kb, vb, l, r, cc, rfl, e, ec, sl, sr⟩
      · cases e
      · cases e
        have hcN : (y, kb, vb) ∈ L1 ++ L2 := by rw [← eL]; simp
        have kb9 := hk _ hcN
        have ne9 : ky kb ≠ ky (.ref kx) := fun e => by
          rcases List.mem_append.mp hcN with z | z
          · have := s1 _ z; dsimp only at this; omega
          · have := s2 _ z; dsimp only at this; omega
        have cont : ∀ (rr : Int32) (o6 : Option Value), g_c1 o6 → cmpS rr (ky (.ref kx)) (ky kb) → g_G K mJ1_put_2 6 1 6 (gA fun r h' n' => r = .null ∧ tm K mp (L1 ++ (n, .ref kx, .ref vx) :: L2) (mc + nI 1) nk h' ∧ fr h h' mp (L1 ++ (n, .ref kx, .ref vx) :: L2) ∧ n' = n + 1) gN 139 [some (.ref mp), some (.ref kx), some (.ref vx), some (.int (nI 1)), some (.ref y), o5, some (.ref y), some .null, some (.ref kx), o9] [.int rr] h n := by
          intro rr o6 g6 hr
          rcases hr with ⟨rfl, hr⟩ | ⟨-, hr⟩ | ⟨rfl, hr⟩
          · have hB : ∀ z ∈ (y, kb, vb) :: (V ++ B), ky (.ref kx) < ky z.2.1 := fun z hz => s2 z (aft (P := A ++ U) (by rw [← eL]; simp) (fun w => by have := s1 _ w; dsimp only at this; omega) z hz)
            rcases sg.vr ⟨f, sl⟩ with rfl | ⟨x, rfl⟩
            · have hU := sg.null ⟨f, sl⟩
              subst hU
              obtain ⟨q1, q2⟩ := place (f := fun z => ky z.2.1) (z := ky (.ref kx)) (A := A) (B := (y, kb, vb) :: (V ++ B)) (by rw [← eL]; simp) iA hB s1 s2
              subst q1; subst q2
              refine r_istore5 dJ1_put_2_139 ?_
              refine r_iload5 dJ1_put_2_141 ?_
              refine r_if_ge (tgt := 156) dJ1_put_2_143 (by decide) (fun c143 => absurd c143 ((by decide))) (fun c143 => ?_)
              refine r_aload4 dJ1_put_2_146 ?_
              refine f_J1_111_J21 dJ1_put_2_148 (by first | assumption | exact g_us | (rw [g_un (by omega)]; assumption) | (rw [g_un (by omega)]; exact g_us) | (rw [g_un (by omega), g_un (by omega)]; assumption) | (rw [g_un (by omega), g_un (by omega)]; exact g_us) | (rw [g_un (by omega), g_un (by omega), g_un (by omega)]; assumption) | ((repeat (rw [g_un (by omega)])); first | exact g_us | assumption)) ?_
              refine r_astoreZ4 dJ1_put_2_151 ?_
              refine r_goto (tgt := 196) dJ1_put_2_153 (by decide) ?_
              refine r_aloadZ4 dJ1_put_2_196 ?_
              refine r_ifnonnullZ dJ1_put_2_198 ?_
              refine r_aload0 dJ1_put_2_201 ?_
              refine r_aload1 dJ1_put_2_202 ?_
              refine r_aload2 dJ1_put_2_203 ?_
              refine r_aload6 dJ1_put_2_204 ?_
              refine r_iload5 dJ1_put_2_206 ?_
              refine r_if_ge (tgt := 215) dJ1_put_2_208 (by decide) (fun c208 => absurd c208 ((by decide))) (fun c208 => ?_)
              refine r_iconst (v := nI 1) dJ1_put_2_211 (by decide) ?_
              refine r_goto (tgt := 216) dJ1_put_2_212 (by decide) ?_
              refine r_callV (M' := mJ1_addEntry) _ dJ1_put_2_216 q2030 q2032 qs25 rfl (lw_all_tbl q2033) q128 (by exact pl_J1_addEntry) gc_J1 (by first | assumption | exact g_us | (rw [g_un (by omega)]; assumption) | (rw [g_un (by omega)]; exact g_us) | (rw [g_un (by omega), g_un (by omega)]; assumption) | (rw [g_un (by omega), g_un (by omega)]; exact g_us) | (rw [g_un (by omega), g_un (by omega), g_un (by omega)]; assumption) | ((repeat (rw [g_un (by omega)])); first | exact g_us | assumption)) ((k_addEntryL (a := y) rfl rfl T0 hm bm c ec ⟨f, sr⟩)) (by omega) (Nat.le_of_ble_eq_true rfl) (by omega) (by omega) rfl (Nat.le_of_ble_eq_true rfl) rfl (kV fun h216 n216 e216 => ?_) kN
              obtain ⟨e216, e217, rfl⟩ := e216
              refine r_null dJ1_put_2_219 ?_
              exact r_areturn dJ1_put_2_220 rfl (Or.inl ⟨_, rfl⟩) (Or.inl rfl) (⟨rfl, e216, e217, rfl⟩)
            · skip
              refine r_istore5 dJ1_put_2_139 ?_
              refine r_iload5 dJ1_put_2_141 ?_
              refine r_if_ge (tgt := 156) dJ1_put_2_143 (by decide) (fun c143 => absurd c143 ((by decide))) (fun c143 => ?_)
              refine r_aload4 dJ1_put_2_146 ?_
              refine f_J1_111_J21 dJ1_put_2_148 (by first | assumption | exact g_us | (rw [g_un (by omega)]; assumption) | (rw [g_un (by omega)]; exact g_us) | (rw [g_un (by omega), g_un (by omega)]; assumption) | (rw [g_un (by omega), g_un (by omega)]; exact g_us) | (rw [g_un (by omega), g_un (by omega), g_un (by omega)]; assumption) | ((repeat (rw [g_un (by omega)])); first | exact g_us | assumption)) ?_
              refine r_astore4 dJ1_put_2_151 ?_
              refine r_goto (tgt := 196) dJ1_put_2_153 (by decide) ?_
              refine r_aload4 dJ1_put_2_196 ?_
              refine r_ifnonnull (tgt := 123) dJ1_put_2_198 (by decide) ?_
              exact ih (j + 1) A U ((y, kb, vb) :: (V ++ B)) x (.ref y) _ _ _ sl ⟨y, kb, vb, r, q, cc, A, B, V, rfl, ⟨f, sr⟩, Or.inl ⟨ec, rfl, rfl⟩, c⟩ (by rw [← eL]; simp) iA hB g_c1i g_c1r
          · exact absurd hr.symm ne9
          · have hA : ∀ z ∈ A ++ (U ++ [(y, kb, vb)]), ky z.2.1 < ky (.ref kx) := fun z hz => s1 z (bef (P := A ++ U) (R := V ++ B) (y := (y, kb, vb)) (by rw [← eL]; simp) (fun w => by have := s2 _ w; dsimp only at this; omega) z (by simpa using hz))
            rcases sg.vr ⟨f, sr⟩ with rfl | ⟨x, rfl⟩
            · have hV := sg.null ⟨f, sr⟩
              subst hV
              obtain ⟨q1, q2⟩ := place (f := fun z => ky z.2.1) (z := ky (.ref kx)) (A := A ++ (U ++ [(y, kb, vb)])) (B := B) (by rw [← eL]; simp) hA iB s1 s2
              subst q1; subst q2
              refine r_istore5 dJ1_put_2_139 ?_
              refine r_iload5 dJ1_put_2_141 ?_
              refine r_if_geN (tgt := 156) dJ1_put_2_143 (by decide) (by omega) (fun c143 => ?_) (fun c143 => absurd c143 (by omega))
              refine r_iload5 dJ1_put_2_156 ?_
              refine r_if_leN (tgt := 171) dJ1_put_2_158 (by decide) (by omega) (fun c158 => absurd c158 (by omega)) (fun c158 => ?_)
              refine r_aload4 dJ1_put_2_161 ?_
              refine f_J1_114_J21 dJ1_put_2_163 (by first | assumption | exact g_us | (rw [g_un (by omega)]; assumption) | (rw [g_un (by omega)]; exact g_us) | (rw [g_un (by omega), g_un (by omega)]; assumption) | (rw [g_un (by omega), g_un (by omega)]; exact g_us) | (rw [g_un (by omega), g_un (by omega), g_un (by omega)]; assumption) | ((repeat (rw [g_un (by omega)])); first | exact g_us | assumption)) ?_
              refine r_astoreZ4 dJ1_put_2_166 ?_
              refine r_goto (tgt := 196) dJ1_put_2_168 (by decide) ?_
              refine r_aloadZ4 dJ1_put_2_196 ?_
              refine r_ifnonnullZ dJ1_put_2_198 ?_
              refine r_aload0 dJ1_put_2_201 ?_
              refine r_aload1 dJ1_put_2_202 ?_
              refine r_aload2 dJ1_put_2_203 ?_
              refine r_aload6 dJ1_put_2_204 ?_
              refine r_iload5 dJ1_put_2_206 ?_
              refine r_if_geN (tgt := 215) dJ1_put_2_208 (by decide) (by omega) (fun c208 => ?_) (fun c208 => absurd c208 (by omega))
              refine r_iconst (v := nI 0) dJ1_put_2_215 (by decide) ?_
              refine r_callV (M' := mJ1_addEntry) _ dJ1_put_2_216 q2030 q2032 qs25 rfl (lw_all_tbl q2033) q128 (by exact pl_J1_addEntry) gc_J1 (by first | assumption | exact g_us | (rw [g_un (by omega)]; assumption) | (rw [g_un (by omega)]; exact g_us) | (rw [g_un (by omega), g_un (by omega)]; assumption) | (rw [g_un (by omega), g_un (by omega)]; exact g_us) | (rw [g_un (by omega), g_un (by omega), g_un (by omega)]; assumption) | ((repeat (rw [g_un (by omega)])); first | exact g_us | assumption)) ((k_addEntryR (a := y) (U := U) (A := A) (B := B) (by simp) rfl T0 hm bm c ec ⟨f, sl⟩)) (by omega) (Nat.le_of_ble_eq_true rfl) (by omega) (by omega) rfl (Nat.le_of_ble_eq_true rfl) rfl (kV fun h216 n216 e216 => ?_) kN
              obtain ⟨e216, e217, rfl⟩ := e216
              refine r_null dJ1_put_2_219 ?_
              exact r_areturn dJ1_put_2_220 rfl (Or.inl ⟨_, rfl⟩) (Or.inl rfl) (⟨rfl, e216, e217, rfl⟩)
            · skip
              refine r_istore5 dJ1_put_2_139 ?_
              refine r_iload5 dJ1_put_2_141 ?_
              refine r_if_geN (tgt := 156) dJ1_put_2_143 (by decide) (by omega) (fun c143 => ?_) (fun c143 => absurd c143 (by omega))
              refine r_iload5 dJ1_put_2_156 ?_
              refine r_if_leN (tgt := 171) dJ1_put_2_158 (by decide) (by omega) (fun c158 => absurd c158 (by omega)) (fun c158 => ?_)
              refine r_aload4 dJ1_put_2_161 ?_
              refine f_J1_114_J21 dJ1_put_2_163 (by first | assumption | exact g_us | (rw [g_un (by omega)]; assumption) | (rw [g_un (by omega)]; exact g_us) | (rw [g_un (by omega), g_un (by omega)]; assumption) | (rw [g_un (by omega), g_un (by omega)]; exact g_us) | (rw [g_un (by omega), g_un (by omega), g_un (by omega)]; assumption) | ((repeat (rw [g_un (by omega)])); first | exact g_us | assumption)) ?_
              refine r_astore4 dJ1_put_2_166 ?_
              refine r_goto (tgt := 196) dJ1_put_2_168 (by decide) ?_
              refine r_aload4 dJ1_put_2_196 ?_
              refine r_ifnonnull (tgt := 123) dJ1_put_2_198 (by decide) ?_
              exact ih (j + 1) (A ++ (U ++ [(y, kb, vb)])) V B x (.ref y) _ _ _ sr ⟨y, kb, vb, l, q, cc, A, B, U, rfl, ⟨f, sl⟩, Or.inr ⟨ec, rfl, rfl⟩, c⟩ (by rw [← eL]; simp) hA iB g_c1i g_c1r
        obtain ⟨x', e1, kx1⟩ := kx0
        cases e1
        obtain ⟨kb1, e2, kb9⟩ := kb9
        dsimp only at e2
        subst e2
        rcases kx1 with ⟨rfl, i, hi, ei, ez⟩ | ⟨rfl, l8, r8, hl8, hr8, ei, ez⟩
        · rcases kb9 with ⟨-, i', hi', ei', ez'⟩ | ⟨e, -⟩
          · dsimp only at ez'
            refine r_aload4 dJ1_put_2_123 ?_
            refine r_astore6 dJ1_put_2_125 ?_
            refine r_aload8 dJ1_put_2_127 ?_
            refine r_aload4 dJ1_put_2_129 ?_
            refine f_J1_105_J21 dJ1_put_2_131 (by first | assumption | exact g_us | (rw [g_un (by omega)]; assumption) | (rw [g_un (by omega)]; exact g_us) | (rw [g_un (by omega), g_un (by omega)]; assumption) | (rw [g_un (by omega), g_un (by omega)]; exact g_us) | (rw [g_un (by omega), g_un (by omega), g_un (by omega)]; assumption) | ((repeat (rw [g_un (by omega)])); first | exact g_us | assumption)) ?_
            refine r_callF (M' := mJ14_compareTo) _ dJ1_put_2_134 q1815 q1002 q1001 rfl q1028 q1030 q1031 q1029 q1027 rfl (lw_all_tbl q1032) q144 (by exact (⟨by decide, by decide, by decide +kernel⟩ : g_pl ⟨"java/lang/Comparable", "compareTo", "(Ljava/lang/Object;)I"⟩ 1)) gc_J14 ei ((k_J14_compareTo ei ei')) (by omega) (Nat.le_of_ble_eq_true rfl) (by omega) (by omega) rfl (Nat.le_of_ble_eq_true rfl) rfl (kI fun r134 h134 n134 e134 => ?_) kN
            obtain ⟨rfl, rfl, rfl⟩ := e134
            exact cont _ o6 g6 (by rw [ez, ez']; exact cmI_S hi hi')
          · cases e
        · rcases kb9 with ⟨e, -⟩ | ⟨-, l9, r9, hl9, hr9, ei', ez'⟩
          · cases e
          · dsimp only at ez'
            refine r_aload4 dJ1_put_2_123 ?_
            refine r_astore6 dJ1_put_2_125 ?_
            refine r_aload8 dJ1_put_2_127 ?_
            refine r_aload4 dJ1_put_2_129 ?_
            refine f_J1_105_J21 dJ1_put_2_131 (by first | assumption | exact g_us | (rw [g_un (by omega)]; assumption) | (rw [g_un (by omega)]; exact g_us) | (rw [g_un (by omega), g_un (by omega)]; assumption) | (rw [g_un (by omega), g_un (by omega)]; exact g_us) | (rw [g_un (by omega), g_un (by omega), g_un (by omega)]; assumption) | ((repeat (rw [g_un (by omega)])); first | exact g_us | assumption)) ?_
            refine r_callF (M' := mX10_compareTo) _ dJ1_put_2_134 q1815 q1002 q1001 rfl q1016 q1018 q1019 q1017 q1015 rfl (lw_all_tbl q1020) q180 (by exact (⟨by decide, by decide, by decide +kernel⟩ : g_pl ⟨"java/lang/Comparable", "compareTo", "(Ljava/lang/Object;)I"⟩ 1)) gc_X10 ei ((k_X10_compareTo hl8 hr8 hl9 hr9 ei ei')) (by omega) (Nat.le_of_ble_eq_true rfl) (by omega) (by omega) rfl (Nat.le_of_ble_eq_true rfl) rfl (kI fun r134 h134 n134 e134 => ?_) kN
            obtain ⟨e134, rfl, rfl⟩ := e134
            exact cont _ o6 g6 (by rw [ez, ez']; exact e134)
  rcases sg.vr ⟨f0, sN⟩ with rfl | ⟨z, rfl⟩
  · have hL := sg.null ⟨f0, sN⟩
    obtain ⟨rfl, rfl⟩ := List.append_eq_nil_iff.mp hL
    refine g_Met.of (M := mJ1_put_2) (L := [some (.ref mp), some (.ref kx), some (.ref vx), some (.int (nI 1)), none, none, none, none, none, none]) (by decide +kernel) (Nat.le_of_ble_eq_true rfl) rfl ?_
    refine r_aload0 dJ1_put_2_0 ?_
    refine f_J1_101_J1 dJ1_put_2_1 (by first | assumption | exact g_us | (rw [g_un (by omega)]; assumption) | (rw [g_un (by omega)]; exact g_us) | (rw [g_un (by omega), g_un (by omega)]; assumption) | (rw [g_un (by omega), g_un (by omega)]; exact g_us) | (rw [g_un (by omega), g_un (by omega), g_un (by omega)]; assumption) | ((repeat (rw [g_un (by omega)])); first | exact g_us | assumption)) ?_
    refine r_astoreZ4 dJ1_put_2_4 ?_
    refine r_aloadZ4 dJ1_put_2_6 ?_
    refine r_ifnonnullZ dJ1_put_2_8 ?_
    refine r_aload0 dJ1_put_2_11 ?_
    refine r_aload1 dJ1_put_2_12 ?_
    refine r_aload2 dJ1_put_2_13 ?_
    refine r_callV (M' := mJ1_addEntryToEmptyMap) _ dJ1_put_2_14 q1992 q1994 qs24 rfl (lw_all_tbl q1995) q128 (by exact pl_J1_addEntryToEmptyMap) gc_J1 (by first | assumption | exact g_us | (rw [g_un (by omega)]; assumption) | (rw [g_un (by omega)]; exact g_us) | (rw [g_un (by omega), g_un (by omega)]; assumption) | (rw [g_un (by omega), g_un (by omega)]; exact g_us) | (rw [g_un (by omega), g_un (by omega), g_un (by omega)]; assumption) | ((repeat (rw [g_un (by omega)])); first | exact g_us | assumption)) ((k_addEmpty bm T0 kx0)) (by omega) (Nat.le_of_ble_eq_true rfl) (by omega) (by omega) rfl (Nat.le_of_ble_eq_true rfl) rfl (kV fun h14 n14 e14 => ?_) kN
    obtain ⟨e14, e15, rfl⟩ := e14
    refine r_null dJ1_put_2_17 ?_
    exact r_areturn dJ1_put_2_18 rfl (Or.inl ⟨_, rfl⟩) (Or.inl rfl) (⟨rfl, e14, e15, rfl⟩)
  · have kx1 := kx0
    obtain ⟨x', e1, kx1⟩ := kx1
    cases e1
    rcases kx1 with ⟨rfl, i, hi, ei, ez⟩ | ⟨rfl, l8, r8, hl8, hr8, ei, ez⟩
    · skip
      refine g_Met.of (M := mJ1_put_2) (L := [some (.ref mp), some (.ref kx), some (.ref vx), some (.int (nI 1)), none, none, none, none, none, none]) (by decide +kernel) (Nat.le_of_ble_eq_true rfl) rfl ?_
      refine r_aload0 dJ1_put_2_0 ?_
      refine f_J1_101_J1 dJ1_put_2_1 (by first | assumption | exact g_us | (rw [g_un (by omega)]; assumption) | (rw [g_un (by omega)]; exact g_us) | (rw [g_un (by omega), g_un (by omega)]; assumption) | (rw [g_un (by omega), g_un (by omega)]; exact g_us) | (rw [g_un (by omega), g_un (by omega), g_un (by omega)]; assumption) | ((repeat (rw [g_un (by omega)])); first | exact g_us | assumption)) ?_
      refine r_astore4 dJ1_put_2_4 ?_
      refine r_aload4 dJ1_put_2_6 ?_
      refine r_ifnonnull (tgt := 19) dJ1_put_2_8 (by decide) ?_
      refine r_aload0 dJ1_put_2_19 ?_
      refine f_J1_16_J1 dJ1_put_2_20 (by first | assumption | exact g_us | (rw [g_un (by omega)]; assumption) | (rw [g_un (by omega)]; exact g_us) | (rw [g_un (by omega), g_un (by omega)]; assumption) | (rw [g_un (by omega), g_un (by omega)]; exact g_us) | (rw [g_un (by omega), g_un (by omega), g_un (by omega)]; assumption) | ((repeat (rw [g_un (by omega)])); first | exact g_us | assumption)) ?_
      refine r_astoreZ7 dJ1_put_2_23 ?_
      refine r_aloadZ7 dJ1_put_2_25 ?_
      refine r_ifnullZ (tgt := 112) dJ1_put_2_27 (by decide) ?_
      refine r_aload1 dJ1_put_2_112 ?_
      refine r_callS (M' := mJ22_requireNonNull) _ dJ1_put_2_113 q1810 q1811 rfl (lw_all_tbl q1812) q155 (by exact pl_J22_requireNonNull)  (k_requireNonNull) (by omega) (Nat.le_of_ble_eq_true rfl) (by omega) (by omega) rfl (Nat.le_of_ble_eq_true rfl) rfl (kA fun r113 h113 n113 t113 e113 => ?_) kN
      obtain ⟨rfl, rfl, rfl⟩ := e113
      refine r_pop dJ1_put_2_116 ?_
      refine r_aload1 dJ1_put_2_117 ?_
      refine r_checkcast dJ1_put_2_118 gc_J14 q1813 (Or.inr q1027) ei ?_
      refine r_astore8 dJ1_put_2_121 ?_
      exact loop f0 0 [] (L1 ++ L2) [] z .null none none none sN ⟨rfl, rfl, rfl, rfl⟩ (by simp) (fun z hz => by simp at hz) (fun z hz => by simp at hz) g_c1n g_c1n
    · skip
      refine g_Met.of (M := mJ1_put_2) (L := [some (.ref mp), some (.ref kx), some (.ref vx), some (.int (nI 1)), none, none, none, none, none, none]) (by decide +kernel) (Nat.le_of_ble_eq_true rfl) rfl ?_
      refine r_aload0 dJ1_put_2_0 ?_
      refine f_J1_101_J1 dJ1_put_2_1 (by first | assumption | exact g_us | (rw [g_un (by omega)]; assumption) | (rw [g_un (by omega)]; exact g_us) | (rw [g_un (by omega), g_un (by omega)]; assumption) | (rw [g_un (by omega), g_un (by omega)]; exact g_us) | (rw [g_un (by omega), g_un (by omega), g_un (by omega)]; assumption) | ((repeat (rw [g_un (by omega)])); first | exact g_us | assumption)) ?_
      refine r_astore4 dJ1_put_2_4 ?_
      refine r_aload4 dJ1_put_2_6 ?_
      refine r_ifnonnull (tgt := 19) dJ1_put_2_8 (by decide) ?_
      refine r_aload0 dJ1_put_2_19 ?_
      refine f_J1_16_J1 dJ1_put_2_20 (by first | assumption | exact g_us | (rw [g_un (by omega)]; assumption) | (rw [g_un (by omega)]; exact g_us) | (rw [g_un (by omega), g_un (by omega)]; assumption) | (rw [g_un (by omega), g_un (by omega)]; exact g_us) | (rw [g_un (by omega), g_un (by omega), g_un (by omega)]; assumption) | ((repeat (rw [g_un (by omega)])); first | exact g_us | assumption)) ?_
      refine r_astoreZ7 dJ1_put_2_23 ?_
      refine r_aloadZ7 dJ1_put_2_25 ?_
      refine r_ifnullZ (tgt := 112) dJ1_put_2_27 (by decide) ?_
      refine r_aload1 dJ1_put_2_112 ?_
      refine r_callS (M' := mJ22_requireNonNull) _ dJ1_put_2_113 q1810 q1811 rfl (lw_all_tbl q1812) q155 (by exact pl_J22_requireNonNull)  (k_requireNonNull) (by omega) (Nat.le_of_ble_eq_true rfl) (by omega) (by omega) rfl (Nat.le_of_ble_eq_true rfl) rfl (kA fun r113 h113 n113 t113 e113 => ?_) kN
      obtain ⟨rfl, rfl, rfl⟩ := e113
      refine r_pop dJ1_put_2_116 ?_
      refine r_aload1 dJ1_put_2_117 ?_
      refine r_checkcast dJ1_put_2_118 gc_X10 q1813 (Or.inr q1015) ei ?_
      refine r_astore8 dJ1_put_2_121 ?_
      exact loop f0 0 [] (L1 ++ L2) [] z .null none none none sN ⟨rfl, rfl, rfl, rfl⟩ (by simp) (fun z hz => by simp at hz) (fun z hz => by simp at hz) g_c1n g_c1n
theorem k_put {b : Bool} {mp kx vx : Nat} {L1 L2 : List c_N} {mc : Int32} {nk : Value} {ky : Value → Int} (bm : k_b K ≤ mp) (T : tm K mp (L1 ++ L2) mc nk h) (hk : ∀ z ∈ L1 ++ L2, kyc b h z.2.1 (ky z.2.1)) (s1 : ∀ z ∈ L1, ky z.2.1 < ky (.ref kx)) (s2 : ∀ z ∈ L2, ky (.ref kx) < ky z.2.1) (kx0 : kyc b h (.ref kx) (ky (.ref kx))) : g_Met K mJ1_put 7 1 6 [.ref mp, .ref kx, .ref vx] h n (gA fun r h' n' => r = .null ∧ tm K mp (L1 ++ (n, .ref kx, .ref vx) :: L2) (mc + nI 1) nk h' ∧ fr h h' mp (L1 ++ (n, .ref kx, .ref vx) :: L2) ∧ n' = n + 1) gN := by
  refine g_Met.of (M := mJ1_put) (L := [some (.ref mp), some (.ref kx), some (.ref vx)]) (by decide +kernel) (Nat.le_of_ble_eq_true rfl) rfl ?_
  refine g_facts fun f1 f2 f3 => ?_
  obtain ⟨t, hm, -⟩ := T.1
  refine r_aload0 dJ1_put_0 ?_
  refine r_aload1 dJ1_put_1 ?_
  refine r_aload2 dJ1_put_2 ?_
  refine r_iconst (v := nI 1) dJ1_put_3 (by decide) ?_
  refine r_callV (M' := mJ1_put_2) _ dJ1_put_4 q1988 q1990 qs23 rfl (lw_all_tbl q1991) q128 (by exact pl_J1_put_2) gc_J1 hm ((k_putNew bm T hk s1 s2 kx0)) (by omega) (Nat.le_of_ble_eq_true rfl) (by omega) (by omega) rfl (Nat.le_of_ble_eq_true rfl) rfl (kA fun r4 h4 n4 t4 e4 => ?_) kN
  obtain ⟨rfl, e4a, e4b, rfl⟩ := e4
  exact r_areturn dJ1_put_7 rfl (Or.inl ⟨_, rfl⟩) (Or.inl rfl) (⟨rfl, e4a, e4b, rfl⟩)
end
