/-! all shares by sorting -/
set_option maxRecDepth 100000
theorem tsT.keep {K : g_K} {W : c_W} {ρ : Nat → Nat} {c mp j : Nat} {I : List Nat} {N Q : Nat → Nat} {h h' : g_P} (T : tsT K W ρ c mp j I N Q h) (f : ∀ (z k : Nat) (vs : List Value), h z = some (g_ob k vs) → (k = 17 ∧ z = mp) ∨ k = 24 ∨ (k = 8 ∧ ∃ i, i < j ∧ z = Q i) → h' z = h z) : tsT K W ρ c mp j I N Q h' := by
  obtain ⟨⟨mc, T1⟩, T2, T3, T4⟩ := T
  have Tc := T1.1
  obtain ⟨tt, hmp, -⟩ := Tc
  refine ⟨⟨mc, T1.keep (f _ _ _ hmp (Or.inl ⟨rfl, rfl⟩)) fun z hz => ?_⟩, T2, T3, fun i hi => ⟨(f _ _ _ (T4 i hi).1 (Or.inr (Or.inr ⟨rfl, i, hi, rfl⟩))).trans (T4 i hi).1, (T4 i hi).2⟩⟩
  obtain ⟨vs, e⟩ := T1.node hz
  exact f _ _ _ e (Or.inr (Or.inl rfl))
/-- the shares when i of the sorted ones have been passed -/
def shP (ρ : Nat → Nat) (c r : Nat) (k : Nat) : Nat := qt ρ c k + if ahd ρ c k (ρ 2) < r ∧ ahd ρ c k (ρ 2) < c - sm (qt ρ c) (ρ 2) then 1 else 0
theorem ahd_lt8 {ρ : Nat → Nat} {c k j : Nat} : ahd ρ c k j ≤ j := by
  have := sm_ub (f := fun j => if rs ρ c j > rs ρ c k ∨ rs ρ c j = rs ρ c k ∧ j < k then 1 else 0) (c := 1) (n := j) fun i _ => by
    split <;> omega
  unfold ahd
  omega
theorem df_dec {a r : Nat} : nI a - nI r + Int32.ofInt (-1) = nI a - nI (r + 1) := by
  rw [← nI_add, show Int32.ofInt (-1) = -nI 1 from rfl, ← Int32.sub_eq_add_neg, Int32.sub_sub]
section
variable {K : g_K} {W : c_W} {lo hi n u ll el s c : Nat} {ρ : Nat → Nat} {h : g_P}
theorem k_shares (w0 : cOK K W) (k : bkL_ K W lo hi ll el ρ h) (hh : hi ≤ n) (w : wB u ρ) (hc : c ≤ 9999) (ho : h s = some (shO ll c ρ)) : g_Met K mX9_shares 9 21 90 [.ref s] h n (gA fun r h' n' => ∃ e, r = .ref e ∧ n ≤ e ∧ e < n' ∧ h' e = some (g_ar 0 (aI (ρ 2) (fun i => nI (shr ρ c i)))) ∧ (∀ q : Nat, q < n → h' q = h q) ∧ n ≤ n' ∧ n' ≤ n + 21) gN := by
  refine g_Met.facts fun f1 f2 f3 => ?_
  have wb := w.b
  have sn := f2 _ _ ho
  -- the sorted ones that are still to be passed
  have pass : ∀ (g r : Nat) (R I2 : List Nat) (N Q : Nat → Nat) (mc z3 : Int32) (nk v1 : Value) (o5 : Option Value) (h1 : g_P) (n1 it : Nat), r + g = ρ 2 → z3 = nI (c - sm (qt ρ c) (ρ 2)) - nI r → g_c1 o5 → n + 3 ≤ it → it < n1 → n1 ≤ n + 21 → R.length = r → (R ++ I2).Perm (List.range (ρ 2)) → (R ++ I2).Pairwise (fun a b => rky ρ c a < rky ρ c b) → tm K (n + 1) (tsL W (R ++ I2) N Q) mc nk h1 → (∀ i, i < ρ 2 → h1 (Q i) = some (g_ob 8 [.int (nI i), .int (nI (rs ρ c i))])) → h1 it = some (g_ob 26 [hdV (tsL W I2 N Q), v1, .int mc, .ref (n + 1)]) → h1 (n + 2) = some (g_ar 0 (aI (ρ 2) (fun i => nI (shP ρ c r i)))) → (∀ q : Nat, q < n → h1 q = h q) → g_G K mX9_shares 9 0 0 (gA fun r h' n' => ∃ e, r = .ref e ∧ n ≤ e ∧ e < n' ∧ h' e = some (g_ar 0 (aI (ρ 2) (fun i => nI (shr ρ c i)))) ∧ (∀ q : Nat, q < n → h' q = h q) ∧ n ≤ n' ∧ n' ≤ n + 21) gN 71 [some (.ref s), some (.ref n), some (.ref (n + 2)), some (.int z3), some (.ref it), o5] [] h1 n1 := by
    intro g
    induction g with
    | zero =>
      intro r R I2 N Q mc z3 nk v1 o5 h1 n1 it hr hz c5 b1 b2 b3 hR hp hs T hQ hi he fr
      have e2 : I2 = [] := by
        have := hp.length_eq
        rw [List.length_append, List.length_range] at this
        exact List.eq_nil_of_length_eq_zero (by omega)
      subst e2
      have ee : ∀ i, i < ρ 2 → shP ρ c r i = shr ρ c i := fun i hi => by
        obtain ⟨r2, hr2⟩ := List.getElem?_of_mem (hp.mem_iff.mpr (List.mem_range.mpr hi))
        have hl := hp.length_eq
        rw [List.length_range] at hl
        have q1 := ahd_pos (by omega) hp hs hr2
        have q2 : r2 < (R ++ []).length := by
          rcases Nat.lt_or_ge r2 (R ++ []).length with q | q
          · exact q
          · rw [List.getElem?_eq_none q] at hr2; cases hr2
        unfold shP shr
        by_cases q : ahd ρ c i (ρ 2) < c - sm (qt ρ c) (ρ 2)
        · rw [if_pos q, if_pos ⟨by omega, q⟩]
        · rw [if_neg q, if_neg fun z => q z.2]
      refine r_aload4 dX9_shares_71 ?_
      refine r_callF (M' := mJ25_hasNext) _ dX9_shares_73 q1915 q1357 q1356 rfl q1391 q1393 q1394 q1392 q1390 rfl (lw_all_tbl q1395) q158 (by exact (⟨by decide, by decide, by decide +kernel⟩ : g_pl ⟨"java/util/Iterator", "hasNext", "()Z"⟩ 0)) gc_J26 hi ((k_J25_hasNext hi)) (by omega) (Nat.le_of_ble_eq_true rfl) (by omega) (by omega) rfl (Nat.le_of_ble_eq_true rfl) rfl (kI fun r73 h73 n73 e73 => ?_) kN
      obtain ⟨q9, q8, q7⟩ := e73; have q9 := q9.symm; have q8 := q8.symm; have q7 := q7.symm; subst q9; subst q8; subst q7
      refine r_if_eqB (tgt := 118) dX9_shares_78 (by decide) (fun c78 => ?_) (fun c78 => ?_)
      · refine r_aload2 dX9_shares_118 ?_
        exact r_areturn dX9_shares_119 rfl (Or.inr ⟨_, rfl⟩) (Or.inr ⟨_, rfl⟩) (⟨n + 2, rfl, Nat.le_add_right n 2, show n + 2 < n1 by omega, by rw [he]; exact congrArg (fun l => some (g_ar 0 l)) (aI_ext fun i hi => by rw [ee i hi]), fr, show n ≤ n1 by omega, b3⟩)
      · exact absurd rfl c78
    | succ g ih =>
      intro r R I2 N Q mc z3 nk v1 o5 h1 n1 it hr hz c5 b1 b2 b3 hR hp hs T hQ hi he fr
      have hl := hp.length_eq
      rw [List.length_append, List.length_range] at hl
      obtain ⟨x, I3, rfl⟩ : ∃ x I3, I2 = x :: I3 := by
        cases I2 with
        | nil => simp at hl; omega
        | cons x I3 => exact ⟨x, I3, rfl⟩
      have hx : x < ρ 2 := List.mem_range.mp (hp.mem_iff.mp (List.mem_append.mpr (Or.inr List.mem_cons_self)))
      have hxr : (R ++ x :: I3)[r]? = some x := by rw [List.getElem?_append_right (by omega), hR, Nat.sub_self]; rfl
      have px := ahd_pos (by omega) hp hs hxr
      have up : ∀ i, i < ρ 2 → i ≠ x → shP ρ c (r + 1) i = shP ρ c r i := fun i hi hix => by
        obtain ⟨r2, hr2⟩ := List.getElem?_of_mem (hp.mem_iff.mpr (List.mem_range.mpr hi))
        have q1 := ahd_pos (by omega) hp hs hr2
        have q2 : r2 ≠ r := fun e => by
          rw [e, hxr] at hr2
          exact hix (Option.some.inj hr2).symm
        unfold shP
        by_cases q : ahd ρ c i (ρ 2) < r ∧ ahd ρ c i (ρ 2) < c - sm (qt ρ c) (ρ 2)
        · rw [if_pos q, if_pos ⟨by omega, q.2⟩]
        · rw [if_neg q, if_neg fun z => q ⟨by omega, z.2⟩]
      have sx : shP ρ c r x = qt ρ c x + 0 := by
        unfold shP
        rw [if_neg (by omega)]
      have T1 := T
      rw [tsL_app, show tsL W (x :: I3) N Q = (N x, .ref (Q x), .ref (c_P W)) :: tsL W I3 N Q from rfl] at T1
      have eit : ∀ (z k : Nat) (vs : List Value), h1 z = some (g_ob k vs) → k ≠ 26 → z ≠ it := fun z k vs q1 q2 e => by
        rw [e, hi] at q1
        exact q2 (obj_inj q1).symm
      have ear : ∀ (z k : Nat) (vs : List Value), h1 z = some (g_ob k vs) → z ≠ n + 2 := fun z k vs q1 e => by
        rw [e, he] at q1
        exact obj_arr q1.symm
      have hl2 : c - sm (qt ρ c) (ρ 2) ≤ c := Nat.sub_le _ _
      have fin : ∀ (v : Nat), shP ρ c (r + 1) x = v → g_G K mX9_shares 9 0 0 (gA fun r h' n' => ∃ e, r = .ref e ∧ n ≤ e ∧ e < n' ∧ h' e = some (g_ar 0 (aI (ρ 2) (fun i => nI (shr ρ c i)))) ∧ (∀ q : Nat, q < n → h' q = h q) ∧ n ≤ n' ∧ n' ≤ n + 21) gN 71 [some (.ref s), some (.ref n), some (.ref (n + 2)), some (.int (z3 + Int32.ofInt (-1))), some (.ref it), some (.ref (Q x))] [] (g_up (g_up h1 it (g_ob 26 [hdV (tsL W I3 N Q), .ref (N x), .int mc, .ref (n + 1)])) (n + 2) (g_ar 0 ((aI (ρ 2) (fun i => nI (shP ρ c r i))).set x (.int (nI v))))) n1 := fun v hv => by
        have Tc := T.1
        obtain ⟨tt, hmp, -⟩ := Tc
        refine ih (r + 1) (R ++ [x]) I3 N Q mc _ nk _ _ _ n1 it (by omega) (by rw [hz]; exact df_dec) g_c1r b1 b2 b3 (by rw [List.length_append, hR]; rfl) (by rw [List.append_assoc]; exact hp) (by rw [List.append_assoc]; exact hs) ?_ (fun i hi2 => ?_) (by rw [g_un (by omega), g_us]) ?_ (fun q hq => by rw [g_un (by omega), g_un (by omega)]; exact fr q hq)
        · rw [List.append_assoc]
          refine T.keep (by rw [g_un (ear _ _ _ hmp), g_un (eit _ _ _ hmp (by decide))]) fun z hz => ?_
          obtain ⟨vs, e⟩ := T.node hz
          rw [g_un (ear _ _ _ e), g_un (eit _ _ _ e (by decide))]
        · rw [g_un (ear _ _ _ (hQ i hi2)), g_un (eit _ _ _ (hQ i hi2) (by decide))]
          exact hQ i hi2
        · rw [g_us, aI_set]
          refine congrArg (fun l => some (g_ar 0 l)) (aI_ext fun i hi2 => ?_)
          by_cases e : i = x
          · subst e
            rw [fup_s, hv]
          · rw [fup_n e, up i hi2 e]
      refine r_aload4 dX9_shares_71 ?_
      refine r_callF (M' := mJ25_hasNext) _ dX9_shares_73 q1915 q1357 q1356 rfl q1391 q1393 q1394 q1392 q1390 rfl (lw_all_tbl q1395) q158 (by exact (⟨by decide, by decide, by decide +kernel⟩ : g_pl ⟨"java/util/Iterator", "hasNext", "()Z"⟩ 0)) gc_J26 hi ((k_J25_hasNext hi)) (by omega) (Nat.le_of_ble_eq_true rfl) (by omega) (by omega) rfl (Nat.le_of_ble_eq_true rfl) rfl (kI fun r73 h73 n73 e73 => ?_) kN
      obtain ⟨q9, q8, q7⟩ := e73; have q9 := q9.symm; have q8 := q8.symm; have q7 := q7.symm; subst q9; subst q8; subst q7
      refine r_if_eqB (tgt := 118) dX9_shares_78 (by decide) (fun c78 => absurd c78 (fun z => z fun y => by simp [tsL] at y)) (fun c78 => ?_)
      refine r_aload4 dX9_shares_81 ?_
      refine r_callF (M' := mJ26_next) _ dX9_shares_83 q1917 q1399 q1398 rfl q1532 q1534 q1535 q1533 q1390 rfl (lw_all_tbl q1536) q159 (by exact (⟨by decide, by decide, by decide +kernel⟩ : g_pl ⟨"java/util/Iterator", "next", "()Ljava/lang/Object;"⟩ 0)) gc_J26 hi ((k_J26_next T1 (by omega) hi (Or.inr ⟨_, rfl⟩))) (by omega) (Nat.le_of_ble_eq_true rfl) (by omega) (by omega) rfl (Nat.le_of_ble_eq_true rfl) rfl (kA fun r83 h83 n83 t83 e83 => ?_) kN
      obtain ⟨q9, q8, q7⟩ := e83; have q9 := q9.symm; have q8 := q8.symm; have q7 := q7.symm; subst q9; subst q8; subst q7
      refine r_checkcast dX9_shares_88 gc_X10 q1956 (Or.inl rfl) (by rw [g_un (eit _ _ _ (hQ x hx) (by decide))]; exact hQ x hx) ?_
      refine r_astore5 dX9_shares_91 ?_
      refine r_aload2 dX9_shares_93 ?_
      refine r_aload5 dX9_shares_94 ?_
      refine f_X9_72_X10 dX9_shares_96 (by rw [g_un (eit _ _ _ (hQ x hx) (by decide))]; exact hQ x hx) ?_
      refine r_dup2 dX9_shares_99 ?_
      refine r_iaload (x) dX9_shares_100 (by rw [g_un (by omega)]; exact he) rfl (by omega) (aI_at hx) ?_
      refine r_iload3 dX9_shares_101 ?_
      refine r_if_le (tgt := 109) dX9_shares_102 (by decide) (fun c102 => ?_) (fun c102 => ?_)
      · refine r_iconst (v := nI 0) dX9_shares_109 (by decide) ?_
        refine r_iadd dX9_shares_110 (nI_add _ _) ?_
        refine r_iastore (x) dX9_shares_111 (by omega) (by rw [g_un (by omega)]; exact he) rfl (by omega) (by rw [aI_len]; exact hx) ?_
        refine r_iinc3 dX9_shares_112 rfl ?_
        refine r_goto (tgt := 71) dX9_shares_115 (by decide) ?_
        exact fin _ (by rw [sx]; unfold shP; rw [if_neg fun z => by rw [hz] at c102; exact absurd ((df_gt (by omega) (by omega)).mpr (by omega)) (Int32.not_lt.mpr c102)])
      · refine r_iconst (v := nI 1) dX9_shares_105 (by decide) ?_
        refine r_goto (tgt := 110) dX9_shares_106 (by decide) ?_
        refine r_iadd dX9_shares_110 (nI_add _ _) ?_
        refine r_iastore (x) dX9_shares_111 (by omega) (by rw [g_un (by omega)]; exact he) rfl (by omega) (by rw [aI_len]; exact hx) ?_
        refine r_iinc3 dX9_shares_112 rfl ?_
        refine r_goto (tgt := 71) dX9_shares_115 (by decide) ?_
        exact fin _ (by rw [sx]; unfold shP; rw [if_pos ⟨by omega, by rw [px]; rw [hz] at c102; exact (df_gt (by omega) (by omega)).mp (Int32.not_le.mp c102)⟩])
  -- the loaves that are still to be put in
  have fill : ∀ (g j : Nat) (I : List Nat) (N Q : Nat → Nat) (o4 o5 : Option Value) (h1 : g_P) (n1 : Nat), j + g = ρ 2 → n1 = n + 3 + 2 * j → g_c1 o4 → g_c1 o5 → tsT K W ρ c (n + 1) j I N Q h1 → h1 n = some (g_ob 38 [.ref (n + 1)]) → h1 (n + 2) = some (g_ar 0 (aI (ρ 2) (fun i => if i < j then nI (qt ρ c i) else nI 0))) → (∀ q : Nat, q < n → h1 q = h q) → g_G K mX9_shares 9 (2 * g + 2) (8 * g + 5) (gA fun r h' n' => ∃ e, r = .ref e ∧ n ≤ e ∧ e < n' ∧ h' e = some (g_ar 0 (aI (ρ 2) (fun i => nI (shr ρ c i)))) ∧ (∀ q : Nat, q < n → h' q = h q) ∧ n ≤ n' ∧ n' ≤ n + 21) gN 22 [some (.ref s), some (.ref n), some (.ref (n + 2)), some (.int (nI j)), o4, o5] [] h1 n1 := by
    intro g
    induction g with
    | zero =>
      intro j I N Q o4 o5 h1 n1 hj hn c4 c5 T hs he fr
      have : j = ρ 2 := by omega
      subst this
      refine g_facts fun g1 g2 g3 => ?_
      have k1 := k.keep fun q hq => fr q (by omega)
      have ho1 := (fr s sn).trans ho
      have hl2 : c - sm (qt ρ c) (ρ 2) ≤ c := Nat.sub_le _ _
      obtain ⟨⟨mc, T1⟩, T2, T3, T4⟩ := T
      have Tc := T1.1
      obtain ⟨tt, hmp, -⟩ := Tc
      refine r_iload3 dX9_shares_22 ?_
      refine r_aload2 dX9_shares_23 ?_
      refine r_arraylength dX9_shares_24 ga_I he (by rw [aI_len]) ?_
      refine r_icmp_geN (tgt := 60) dX9_shares_25 (by decide) (by omega) (by omega) (fun c25 => ?_) (fun c25 => absurd c25 (by omega))
      refine r_aload0 dX9_shares_60 ?_
      refine r_callV (M' := mX9_left) _ dX9_shares_61 q2061 q2063 qs29 rfl (lw_all_tbl q2064) q178 (by exact pl_X9_left) gc_X9 ho1 ((k_left k1 w hc ho1)) (by omega) (Nat.le_of_ble_eq_true rfl) (by omega) (by omega) rfl (Nat.le_of_ble_eq_true rfl) rfl (kI fun r61 h61 n61 e61 => ?_) kN
      obtain ⟨q9, q8, q7⟩ := e61; have q9 := q9.symm; have q8 := q8.symm; have q7 := q7.symm; subst q9; subst q8; subst q7
      refine r_istore3 dX9_shares_64 ?_
      refine r_aload1 dX9_shares_65 ?_
      refine r_callV (M' := mJ41_iterator) _ dX9_shares_66 q2065 q1749 q4011 rfl (lw_all_tbl q1751) q179 (by exact pl_J41_iterator) gc_J41 hs ((k_J41_iterator (by omega) hs T1)) (by omega) (Nat.le_of_ble_eq_true rfl) (by omega) (by omega) rfl (Nat.le_of_ble_eq_true rfl) rfl (kA fun r66 h66 n66 t66 e66 => ?_) kN
      obtain ⟨z, nk, rfl, z1, z2, z3, z4, z5, z6, z7⟩ := e66
      refine r_astore4 dX9_shares_69 ?_
      refine g_bud (bc' := 0) (bs' := 0) (by omega) (by omega) (Nat.le_refl _) (pass (ρ 2) 0 [] I N Q mc _ nk _ o5 _ _ z (by omega) (by rw [pk_sub (Nat.zero_le _)]; rfl) c5 (by omega) z2 (by omega) rfl T2 T3 z4 (fun i hi2 => ?_) z3 ?_ (fun q hq => (z5 q (by omega) (by omega)).trans (fr q hq)))
      · have q1 := (T4 i hi2).1
        rw [z5 _ (g2 _ _ q1) (fun e => by rw [e, hmp] at q1; exact absurd (obj_inj q1) (by decide))]
        exact q1
      · rw [z5 _ (by omega) (by omega), he]
        exact congrArg (fun l => some (g_ar 0 l)) (aI_ext fun i hi2 => by rw [if_pos hi2]; unfold shP; rw [if_neg (by omega)]; rfl)
    | succ g ih =>
      intro j I N Q o4 o5 h1 n1 hj hn c4 c5 T hs he fr
      refine g_facts fun g1 g2 g3 => ?_
      have wp := wts_p w (by omega)
      have wl := wts_le w
      have rb : ∀ j, rs ρ c j < 2147483648 := fun j => by
        have : rs ρ c j < wts ρ := Nat.mod_lt _ wp
        omega
      have k1 := k.keep fun q hq => fr q (by omega)
      have ho1 := (fr s sn).trans ho
      have k2 := k1.keep (h' := g_up (g_up h1 (n + 2) (g_ar 0 ((aI (ρ 2) (fun i => if i < j then nI (qt ρ c i) else nI 0)).set j (.int (nI (qt ρ c j)))))) n1 (g_ob 8 [.int (nI 0), .int (nI 0)])) fun q hq => by rw [g_un (by omega), g_un (by omega)]
      have ho2 : (g_up (g_up h1 (n + 2) (g_ar 0 ((aI (ρ 2) (fun i => if i < j then nI (qt ρ c i) else nI 0)).set j (.int (nI (qt ρ c j)))))) n1 (g_ob 8 [.int (nI 0), .int (nI 0)])) s = some (shO ll c ρ) := by rw [g_un (by omega), g_un (by omega)]; exact ho1
      have Tk := T.keep (h' := g_up (g_up h1 (n + 2) (g_ar 0 ((aI (ρ 2) (fun i => if i < j then nI (qt ρ c i) else nI 0)).set j (.int (nI (qt ρ c j)))))) n1 (g_ob 8 [.int (nI j), .int (nI (rs ρ c j))])) fun z kk vs q1 _ => by
        have q2 := g2 _ _ q1
        rw [g_un (by omega), g_un (fun e => by rw [e, he] at q1; exact obj_arr q1.symm)]
      have hQ : ∀ i, i < j → Q i ≠ n1 := fun i hi2 => by
        have := g2 _ _ (T.2.2.2 i hi2).1
        omega
      refine r_iload3 dX9_shares_22 ?_
      refine r_aload2 dX9_shares_23 ?_
      refine r_arraylength dX9_shares_24 ga_I he (by rw [aI_len]) ?_
      refine r_icmp_geN (tgt := 60) dX9_shares_25 (by decide) (by omega) (by omega) (fun c25 => absurd c25 (by omega)) (fun c25 => ?_)
      refine r_aload2 dX9_shares_28 ?_
      refine r_iload3 dX9_shares_29 ?_
      refine r_aload0 dX9_shares_30 ?_
      refine r_iload3 dX9_shares_31 ?_
      refine r_callV (M' := mX9_lowered) _ dX9_shares_32 q1950 q1952 qs21 rfl (lw_all_tbl q1953) q178 (by exact pl_X9_lowered) gc_X9 ho1 ((k_lowered k1 w hc ho1 (by omega))) (by omega) (Nat.le_of_ble_eq_true rfl) (by omega) (by omega) rfl (Nat.le_of_ble_eq_true rfl) rfl (kI fun r32 h32 n32 e32 => ?_) kN
      obtain ⟨q9, q8, q7⟩ := e32; have q9 := q9.symm; have q8 := q8.symm; have q7 := q7.symm; subst q9; subst q8; subst q7
      refine r_iastore (j) dX9_shares_35 (by omega) he rfl (by omega) (by rw [aI_len]; omega) ?_
      refine r_aload1 dX9_shares_36 ?_
      refine n_X9_56 dX9_shares_37 (by omega) (by omega) ?_
      refine r_dup dX9_shares_40 ?_
      refine r_iload3 dX9_shares_41 ?_
      refine r_aload0 dX9_shares_42 ?_
      refine r_iload3 dX9_shares_43 ?_
      refine r_callV (M' := mX9_rest) _ dX9_shares_44 q1958 q1960 qs22 rfl (lw_all_tbl q1961) q178 (by exact pl_X9_rest) gc_X9 ho2 ((k_rest9 k2 w hc ho2 (by omega))) (by omega) (Nat.le_of_ble_eq_true rfl) (by omega) (by omega) rfl (Nat.le_of_ble_eq_true rfl) rfl (kI fun r44 h44 n44 e44 => ?_) kN
      obtain ⟨q9, q8, q7⟩ := e44; have q9 := q9.symm; have q8 := q8.symm; have q7 := q7.symm; subst q9; subst q8; subst q7
      refine r_callI (M' := mX10_init) _ dX9_shares_47 q1962 q1963 rfl rfl rfl (lw_all_tbl q1964) q180 (by exact pl_X10_init)  ((k_X10_init (by omega) g_us)) (by omega) (Nat.le_of_ble_eq_true rfl) (by omega) (by omega) rfl (Nat.le_of_ble_eq_true rfl) rfl (kV fun h47 n47 e47 => ?_) kN
      obtain ⟨q8, q7⟩ := e47; have q8 := q8.symm; have q7 := q7.symm; subst q8; subst q7
      rw [g_up_up]
      refine r_callV (M' := mJ41_add) _ dX9_shares_50 q1974 q1975 q1976 rfl (lw_all_tbl q1977) q179 (by exact pl_J41_add) gc_J41 (by rw [g_un (by omega), g_un (by omega)]; exact hs) ((k_J41_add w0 (by omega) rb (by omega) Tk (by rw [g_un (by omega), g_un (by omega)]; exact hs) g_us hQ)) (by omega) (Nat.le_of_ble_eq_true rfl) (by omega) (by omega) rfl (Nat.le_of_ble_eq_true rfl) rfl (kI fun r50 h50 n50 e50 => ?_) kN
      obtain ⟨⟨I', N', T'⟩, y1, y2, y3, rfl⟩ := e50
      refine r_pop dX9_shares_53 ?_
      refine r_iinc3 dX9_shares_54 (ii1 _) ?_
      refine r_goto (tgt := 22) dX9_shares_57 (by decide) ?_
      refine g_bud (bc' := 2 * g + 2) (bs' := 8 * g + 5) (by omega) (by omega) (Nat.le_refl _) (ih (j + 1) I' N' (fup Q j n1) o4 o5 _ _ (by omega) (by omega) c4 c5 T' ?_ ?_ (fun q hq => ?_))
      · rw [y1 n 38 [.ref (n + 1)] (by rw [g_un (by omega), g_un (by omega)]; exact hs) (by decide) (by decide), g_un (by omega), g_un (by omega)]
        exact hs
      · rw [y2 (n + 2) 0 _ (by rw [g_un (by omega), g_us]), g_un (by omega), g_us, aI_set]
        refine congrArg (fun l => some (g_ar 0 l)) (aI_ext fun i hi2 => ?_)
        by_cases e : i = j
        · subst e
          rw [fup_s, if_pos (by omega)]
        · rw [fup_n e]
          by_cases e2 : i < j
          · rw [if_pos e2, if_pos (by omega)]
          · rw [if_neg e2, if_neg (by omega)]
      · rw [y3 q (by omega), g_un (by omega), g_un (by omega)]
        exact fr q hq
  have k71 := k.keep (h' := g_up h n (g_ob 38 [.null])) fun q hq => by rw [g_un (by omega)]
  refine g_Met.of (M := mX9_shares) (L := [some (.ref s), none, none, none, none, none]) (by decide +kernel) (Nat.le_of_ble_eq_true rfl) rfl ?_
  refine n_X9_53 dX9_shares_0 (by omega) (by omega) ?_
  refine r_dup dX9_shares_3 ?_
  refine r_callI (M' := mJ41_init) _ dX9_shares_4 q1935 q1936 rfl rfl rfl (lw_all_tbl q1937) q179 (by exact pl_J41_init)  ((k_J41_init (n := n + 1) (by omega) (by omega) g_us)) (by omega) (Nat.le_of_ble_eq_true rfl) (by omega) (by omega) rfl (Nat.le_of_ble_eq_true rfl) rfl (kV fun h4 n4 e4 => ?_) kN
  obtain ⟨z1, z2, z3, rfl⟩ := e4
  have fr : ∀ q : Nat, q < n → h4 q = h q := fun q hq => by rw [z3 q (by omega) (by omega), g_un (by omega)]
  have k2 := k.keep fun q hq => fr q (by omega)
  obtain ⟨y1, y2, y3⟩ := k2.cell
  refine r_astore1 dX9_shares_7 ?_
  refine r_aload0 dX9_shares_8 ?_
  refine f_X9_7_X9 dX9_shares_9 ((fr s sn).trans ho) ?_
  refine r_callF (M' := mJ4_size) _ dX9_shares_12 q1949 q413 q412 rfl q415 q417 q418 q416 q414 rfl (lw_all_tbl q419) q131 (by exact (⟨by decide, by decide, by decide +kernel⟩ : g_pl ⟨"java/util/List", "size", "()I"⟩ 0)) gc_J4 y3 ((k_sizeL k2)) (by omega) (Nat.le_of_ble_eq_true rfl) (by omega) (by omega) rfl (Nat.le_of_ble_eq_true rfl) rfl (kI fun r12 h12 n12 e12 => ?_) kN
  obtain ⟨q9, q8, q7⟩ := e12; have q9 := q9.symm; have q8 := q8.symm; have q7 := q7.symm; subst q9; subst q8; subst q7
  refine r_newarray (ty := .int) ((ρ 2)) dX9_shares_17 rfl ga_I q775 rfl (by omega) (by first | decide | (simp [componentBytes]; omega)) (by omega) (by omega) ?_
  refine r_astore2 dX9_shares_19 ?_
  refine r_iconst (v := nI 0) dX9_shares_20 (by decide) ?_
  refine r_istore3 dX9_shares_21 ?_
  refine g_bud (bc' := 2 * ρ 2 + 2) (bs' := 8 * ρ 2 + 5) (by omega) (by omega) (Nat.le_refl _) (fill (ρ 2) 0 [] (fun _ => 0) (fun _ => 0) none none _ _ (by omega) (by omega) g_c1n g_c1n ⟨⟨nI 0, z2.keep (g_un (by omega)) fun z hz => by cases hz⟩, List.Perm.refl _, List.Pairwise.nil, fun i hi => absurd hi (by omega)⟩ (by rw [g_un (by omega)]; exact z1) ?_ (fun q hq => by rw [g_un (by omega)]; exact fr q hq))
  rw [g_us, dv_int, aI_rep]
  exact congrArg (fun l => some (g_ar 0 l)) (aI_ext fun i hi => by rw [if_neg (by omega)])
end
