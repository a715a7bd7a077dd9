/-! TreeMap: the colours after an insertion (printed by gen_tree2.py) -/
set_option maxRecDepth 100000
section
variable {K : g_K} {n : Nat} {h : g_P}
theorem k_fixL {mp : Nat} {N : List c_N} {sz mc nk : Value} (bm : k_b K ≤ mp) (fa : ∀ z ∈ N, k_b K ≤ z.1) (nd : (N.map Prod.fst).Nodup) (nmp : ∀ z ∈ N, z.1 ≠ mp) : ∀ (fuel j : Nat), j ≤ fuel → ∀ (o2 : Option Value) (h1 : g_P) (t : Value) (A B X1 X2 : List c_N) (x : Nat) (kx vx xl xr q : Value), h1 mp = some (trM t sz mc nk) → fr h h1 mp N → ctx h1 j A B (.ref x) q t → h1 x = some (nC kx vx xl xr q false) → sg h1 X1 xl (.ref x) → sg h1 X2 xr (.ref x) → rbk h1 t x → A ++ ((X1 ++ (x, kx, vx) :: X2) ++ B) = N → g_G K mJ1_fixAfterInsertion 1 0 0 (gV fun h' n' => (∃ t', h' mp = some (trM t' sz mc nk) ∧ sg h' N t' .null ∧ rbB h' t') ∧ fr h h' mp N ∧ n' = n) gN 5 [some (.ref mp), some (.ref x), o2] [] h1 n := by
  intro fuel
  induction fuel with
  | zero =>
    intro j hj o2 h1 t A B X1 X2 x kx vx xl xr q hm f1 c ex sx1 sx2 rb eN
    have : j = 0 := by omega
    subst this
    have sN := c.plug (sg.node ex sx1 sx2)
    rw [eN] at sN
    obtain ⟨rfl, rfl, rfl, rfl⟩ := c
    refine r_aload1 dJ1_fixAfterInsertion_5 ?_
    refine r_ifnull dJ1_fixAfterInsertion_6 ?_
    refine r_aload1 dJ1_fixAfterInsertion_9 ?_
    refine r_aload0 dJ1_fixAfterInsertion_10 ?_
    refine f_J1_101_J1 dJ1_fixAfterInsertion_11 (by first | assumption | exact g_us | (rw [g_un (by omega)]; assumption) | (rw [g_un (by omega)]; exact g_us) | (rw [g_un (by omega), g_un (by omega)]; assumption) | (rw [g_un (by omega), g_un (by omega)]; exact g_us) | (rw [g_un (by omega), g_un (by omega), g_un (by omega)]; assumption) | ((repeat (rw [g_un (by omega)])); first | exact g_us | assumption)) ?_
    refine r_acmp_eq (tgt := 258) dJ1_fixAfterInsertion_14 (by decide) (fun c14 => ?_) (fun c14 => absurd (rfl) c14)
    exact k_fix0 bm fa nd nmp x _ o2 _ hm sN f1
  | succ fuel ih =>
    intro j hj o2 h1 t A B X1 X2 x kx vx xl xr q hm f1 c ex sx1 sx2 rb eN
    cases j with
    | zero =>
      have sN := c.plug (sg.node ex sx1 sx2)
      rw [eN] at sN
      obtain ⟨rfl, rfl, rfl, rfl⟩ := c
      refine r_aload1 dJ1_fixAfterInsertion_5 ?_
      refine r_ifnull dJ1_fixAfterInsertion_6 ?_
      refine r_aload1 dJ1_fixAfterInsertion_9 ?_
      refine r_aload0 dJ1_fixAfterInsertion_10 ?_
      refine f_J1_101_J1 dJ1_fixAfterInsertion_11 (by first | assumption | exact g_us | (rw [g_un (by omega)]; assumption) | (rw [g_un (by omega)]; exact g_us) | (rw [g_un (by omega), g_un (by omega)]; assumption) | (rw [g_un (by omega), g_un (by omega)]; exact g_us) | (rw [g_un (by omega), g_un (by omega), g_un (by omega)]; assumption) | ((repeat (rw [g_un (by omega)])); first | exact g_us | assumption)) ?_
      refine r_acmp_eq (tgt := 258) dJ1_fixAfterInsertion_14 (by decide) (fun c14 => ?_) (fun c14 => absurd (rfl) c14)
      exact k_fix0 bm fa nd nmp x _ o2 _ hm sN f1
    | succ j =>
      have sN := c.plug (sg.node ex sx1 sx2)
      rw [eN] at sN
      have hx : (x, kx, vx) ∈ N := by rw [← eN]; simp
      have nd2 := nd
      rw [← eN] at nd2
      obtain ⟨r, rfl, hr⟩ : ∃ r, t = .ref r ∧ ¬ x = r := by
        rcases c.root with ⟨e, -⟩ | ⟨-, z, hz, rfl⟩
        · cases e
        · exact ⟨_, rfl, fun e => (nd_mid nd2).2.2 z hz (x, kx, vx) (by simp) e.symm⟩
      obtain ⟨s1, p, kp, vp, w, q1, cp, A1, B1, Wl, rfl, sw, ep, c1, eL⟩ := c.one
      have eN1 := (eL (X1 ++ (x, kx, vx) :: X2)).symm.trans eN
      have hp : (p, kp, vp) ∈ N := by rw [← eN1]; simp [mem_ls2]
      have nd3 := nd
      rw [← eN1] at nd3
      obtain ⟨m1, m2, m3, m4, m5⟩ := nd_ls2 (nd_mid nd3).1
      have xp : x ≠ p := m3 (x, kx, vx) (by simp)
      obtain ⟨pl, pr, epc⟩ : ∃ pl pr, h1 p = some (nC kp vp pl pr q1 cp) := by cases s1 <;> exact ⟨_, _, ep⟩
      cases cp with
      | true =>
        have epc' : h1 p = some (g_ob 24 [kp, vp, pl, pr, q1, .int (nI 1)]) := epc
        refine r_aload1 dJ1_fixAfterInsertion_5 ?_
        refine r_ifnull dJ1_fixAfterInsertion_6 ?_
        refine r_aload1 dJ1_fixAfterInsertion_9 ?_
        refine r_aload0 dJ1_fixAfterInsertion_10 ?_
        refine f_J1_101_J1 dJ1_fixAfterInsertion_11 (by first | assumption | exact g_us | (rw [g_un (by omega)]; assumption) | (rw [g_un (by omega)]; exact g_us) | (rw [g_un (by omega), g_un (by omega)]; assumption) | (rw [g_un (by omega), g_un (by omega)]; exact g_us) | (rw [g_un (by omega), g_un (by omega), g_un (by omega)]; assumption) | ((repeat (rw [g_un (by omega)])); first | exact g_us | assumption)) ?_
        refine r_acmp_eq (tgt := 258) dJ1_fixAfterInsertion_14 (by decide) (fun c14 => absurd c14 (hr)) (fun c14 => ?_)
        refine r_aload1 dJ1_fixAfterInsertion_17 ?_
        refine f_J1_124_J21 dJ1_fixAfterInsertion_18 (by first | assumption | exact g_us | (rw [g_un (by omega)]; assumption) | (rw [g_un (by omega)]; exact g_us) | (rw [g_un (by omega), g_un (by omega)]; assumption) | (rw [g_un (by omega), g_un (by omega)]; exact g_us) | (rw [g_un (by omega), g_un (by omega), g_un (by omega)]; assumption) | ((repeat (rw [g_un (by omega)])); first | exact g_us | assumption)) ?_
        refine f_J1_290_J21 dJ1_fixAfterInsertion_21 (by first | assumption | exact g_us | (rw [g_un (by omega)]; assumption) | (rw [g_un (by omega)]; exact g_us) | (rw [g_un (by omega), g_un (by omega)]; assumption) | (rw [g_un (by omega), g_un (by omega)]; exact g_us) | (rw [g_un (by omega), g_un (by omega), g_un (by omega)]; assumption) | ((repeat (rw [g_un (by omega)])); first | exact g_us | assumption)) ?_
        refine r_if_neN (tgt := 258) dJ1_fixAfterInsertion_24 (by decide) (by omega) (fun c24 => ?_) (fun c24 => absurd c24 (by omega))
        exact k_fix0 bm fa nd nmp r _ o2 _ hm sN f1
      | false =>
        have epc' : h1 p = some (g_ob 24 [kp, vp, pl, pr, q1, .int (nI 0)]) := epc
        cases j with
        | zero =>
          obtain ⟨rfl, rfl, rfl, e⟩ := c1
          cases e
          exact absurd (rb _ _ _ _ _ _ _ rfl (fun e => xp e.symm) epc) (by decide)
        | succ j =>
          obtain ⟨s, g, kg, vg, o, qg, cg, A2, B2, O, rfl, so, eg, c2, eL2⟩ := c1.one
          have eN2 := (eL2 (ls2 s1 (X1 ++ (x, kx, vx) :: X2) (p, kp, vp) Wl)).symm.trans eN1
          have hg : (g, kg, vg) ∈ N := by rw [← eN2]; simp [mem_ls2]
          have nd4 := nd
          rw [← eN2] at nd4
          obtain ⟨n1, n2, n3, n4, n5⟩ := nd_ls2 (nd_mid nd4).1
          have pg : p ≠ g := n3 (p, kp, vp) (mem_ls2.mpr (Or.inl rfl))
          have xg : x ≠ g := n3 (x, kx, vx) (mem_ls2.mpr (Or.inr (Or.inl (by simp))))
          have sP : sg h1 (ls2 s1 (X1 ++ (x, kx, vx) :: X2) (p, kp, vp) Wl) (.ref p) (.ref g) := sg.nodeS ep (sg.node ex sx1 sx2) sw
          have up : ∀ (u : Nat) (ku vu ul ur : Value) (cu : Bool), o = .ref u → h1 u = some (nC ku vu ul ur (.ref g) cu) → (u, ku, vu) ∈ O → (h3 : g_P) → h3 = g_up (g_up (g_up h1 p (nC kp vp pl pr (.ref g) true)) u (nC ku vu ul ur (.ref g) true)) g (trS s kg vg (.ref p) (.ref u) qg false) → (o2 : Option Value) → g_G K mJ1_fixAfterInsertion 1 0 0 (gV fun h' n' => (∃ t', h' mp = some (trM t' sz mc nk) ∧ sg h' N t' .null ∧ rbB h' t') ∧ fr h h' mp N ∧ n' = n) gN 5 [some (.ref mp), some (.ref g), o2] [] h3 n := by
            intro u ku vu ul ur cu eo eu hu h3 e3 o3
            subst eo
            have hu2 : (u, ku, vu) ∈ N := by rw [← eN2]; simp [mem_ls2, hu]
            obtain ⟨d1, d2, d3, d4, d5⟩ := recol c2 eg so eu sP epc nd4 e3
            have ug : u ≠ g := n4 _ hu
            have hm3 : h3 mp = some (trM (.ref r) sz mc nk) := by rw [e3, g_un (Ne.symm (nmp _ hg)), g_un (Ne.symm (nmp _ hu2)), g_un (Ne.symm (nmp _ hp))]; exact hm
            have f3 : fr h h3 mp N := by rw [e3]; exact ((f1.up ⟨_, hp, rfl⟩).up ⟨_, hu2, rfl⟩).up ⟨_, hg, rfl⟩
            have rb3 : rbk h3 (.ref r) g := by
              intro b kk v l r2 q cc e1 e2 e4
              cases e1
              rcases d1.root with ⟨-, -, -, -, e⟩ | ⟨-, z, hz, e⟩
              · cases e; exact absurd rfl e2
              · cases e
                rw [d5 z hz] at e4
                exact rb _ _ _ _ _ _ _ rfl (fun e => hr e.symm) e4
            cases s
            · exact ih j (by omega) o3 h3 _ A2 B2 _ _ g kg vg _ _ qg hm3 f3 d1 d2 d3 d4 rb3 eN2
            · exact ih j (by omega) o3 h3 _ A2 B2 _ _ g kg vg _ _ qg hm3 f3 d1 d2 d4 d3 rb3 eN2

          cases s with
          | false =>
            have eg' : h1 g = some (nC kg vg (.ref p) o qg cg) := eg
            rcases so.vr with rfl | ⟨u, rfl⟩
            · skip
              refine r_aload1 dJ1_fixAfterInsertion_5 ?_
              refine r_ifnull dJ1_fixAfterInsertion_6 ?_
              refine r_aload1 dJ1_fixAfterInsertion_9 ?_
              refine r_aload0 dJ1_fixAfterInsertion_10 ?_
              refine f_J1_101_J1 dJ1_fixAfterInsertion_11 (by first | assumption | exact g_us | (rw [g_un (by omega)]; assumption) | (rw [g_un (by omega)]; exact g_us) | (rw [g_un (by omega), g_un (by omega)]; assumption) | (rw [g_un (by omega), g_un (by omega)]; exact g_us) | (rw [g_un (by omega), g_un (by omega), g_un (by omega)]; assumption) | ((repeat (rw [g_un (by omega)])); first | exact g_us | assumption)) ?_
              refine r_acmp_eq (tgt := 258) dJ1_fixAfterInsertion_14 (by decide) (fun c14 => absurd c14 (hr)) (fun c14 => ?_)
              refine r_aload1 dJ1_fixAfterInsertion_17 ?_
              refine f_J1_124_J21 dJ1_fixAfterInsertion_18 (by first | assumption | exact g_us | (rw [g_un (by omega)]; assumption) | (rw [g_un (by omega)]; exact g_us) | (rw [g_un (by omega), g_un (by omega)]; assumption) | (rw [g_un (by omega), g_un (by omega)]; exact g_us) | (rw [g_un (by omega), g_un (by omega), g_un (by omega)]; assumption) | ((repeat (rw [g_un (by omega)])); first | exact g_us | assumption)) ?_
              refine f_J1_290_J21 dJ1_fixAfterInsertion_21 (by first | assumption | exact g_us | (rw [g_un (by omega)]; assumption) | (rw [g_un (by omega)]; exact g_us) | (rw [g_un (by omega), g_un (by omega)]; assumption) | (rw [g_un (by omega), g_un (by omega)]; exact g_us) | (rw [g_un (by omega), g_un (by omega), g_un (by omega)]; assumption) | ((repeat (rw [g_un (by omega)])); first | exact g_us | assumption)) ?_
              refine r_if_neN (tgt := 258) dJ1_fixAfterInsertion_24 (by decide) (by omega) (fun c24 => absurd c24 (by omega)) (fun c24 => ?_)
              refine r_aload1 dJ1_fixAfterInsertion_27 ?_
              refine r_callS (M' := mJ1_parentOf) _ dJ1_fixAfterInsertion_28 q2038 q2039 rfl (lw_all_tbl q2040) q128 (by exact pl_J1_parentOf)  ((k_parentOf ex (Or.inr ⟨_, rfl⟩))) (by omega) (Nat.le_of_ble_eq_true rfl) (by omega) (by omega) rfl (Nat.le_of_ble_eq_true rfl) rfl (kA fun r28 h28 n28 t28 e28 => ?_) kN
              obtain ⟨q9, q8, q7⟩ := e28; have q9 := q9.symm; have q8 := q8.symm; have q7 := q7.symm; subst q9; subst q8; subst q7
              refine r_aload1 dJ1_fixAfterInsertion_31 ?_
              refine r_callS (M' := mJ1_parentOf) _ dJ1_fixAfterInsertion_32 q2038 q2039 rfl (lw_all_tbl q2040) q128 (by exact pl_J1_parentOf)  ((k_parentOf ex (Or.inr ⟨_, rfl⟩))) (by omega) (Nat.le_of_ble_eq_true rfl) (by omega) (by omega) rfl (Nat.le_of_ble_eq_true rfl) rfl (kA fun r32 h32 n32 t32 e32 => ?_) kN
              obtain ⟨q9, q8, q7⟩ := e32; have q9 := q9.symm; have q8 := q8.symm; have q7 := q7.symm; subst q9; subst q8; subst q7
              refine r_callS (M' := mJ1_parentOf) _ dJ1_fixAfterInsertion_35 q2038 q2039 rfl (lw_all_tbl q2040) q128 (by exact pl_J1_parentOf)  ((k_parentOf epc (Or.inr ⟨_, rfl⟩))) (by omega) (Nat.le_of_ble_eq_true rfl) (by omega) (by omega) rfl (Nat.le_of_ble_eq_true rfl) rfl (kA fun r35 h35 n35 t35 e35 => ?_) kN
              obtain ⟨q9, q8, q7⟩ := e35; have q9 := q9.symm; have q8 := q8.symm; have q7 := q7.symm; subst q9; subst q8; subst q7
              refine r_callS (M' := mJ1_leftOf) _ dJ1_fixAfterInsertion_38 q2041 q2042 rfl (lw_all_tbl q2043) q128 (by exact pl_J1_leftOf)  ((k_leftOf eg' (Or.inr ⟨_, rfl⟩))) (by omega) (Nat.le_of_ble_eq_true rfl) (by omega) (by omega) rfl (Nat.le_of_ble_eq_true rfl) rfl (kA fun r38 h38 n38 t38 e38 => ?_) kN
              obtain ⟨q9, q8, q7⟩ := e38; have q9 := q9.symm; have q8 := q8.symm; have q7 := q7.symm; subst q9; subst q8; subst q7
              refine r_acmp_ne (tgt := 151) dJ1_fixAfterInsertion_41 (by decide) (fun c41 => absurd c41 ((fun z => z rfl))) (fun c41 => ?_)
              refine r_aload1 dJ1_fixAfterInsertion_44 ?_
              refine r_callS (M' := mJ1_parentOf) _ dJ1_fixAfterInsertion_45 q2038 q2039 rfl (lw_all_tbl q2040) q128 (by exact pl_J1_parentOf)  ((k_parentOf ex (Or.inr ⟨_, rfl⟩))) (by omega) (Nat.le_of_ble_eq_true rfl) (by omega) (by omega) rfl (Nat.le_of_ble_eq_true rfl) rfl (kA fun r45 h45 n45 t45 e45 => ?_) kN
              obtain ⟨q9, q8, q7⟩ := e45; have q9 := q9.symm; have q8 := q8.symm; have q7 := q7.symm; subst q9; subst q8; subst q7
              refine r_callS (M' := mJ1_parentOf) _ dJ1_fixAfterInsertion_48 q2038 q2039 rfl (lw_all_tbl q2040) q128 (by exact pl_J1_parentOf)  ((k_parentOf epc (Or.inr ⟨_, rfl⟩))) (by omega) (Nat.le_of_ble_eq_true rfl) (by omega) (by omega) rfl (Nat.le_of_ble_eq_true rfl) rfl (kA fun r48 h48 n48 t48 e48 => ?_) kN
              obtain ⟨q9, q8, q7⟩ := e48; have q9 := q9.symm; have q8 := q8.symm; have q7 := q7.symm; subst q9; subst q8; subst q7
              refine r_callS (M' := mJ1_rightOf) _ dJ1_fixAfterInsertion_51 q2044 q2045 rfl (lw_all_tbl q2046) q128 (by exact pl_J1_rightOf)  ((k_rightOf eg' (Or.inl rfl))) (by omega) (Nat.le_of_ble_eq_true rfl) (by omega) (by omega) rfl (Nat.le_of_ble_eq_true rfl) rfl (kA fun r51 h51 n51 t51 e51 => ?_) kN
              obtain ⟨q9, q8, q7⟩ := e51; have q9 := q9.symm; have q8 := q8.symm; have q7 := q7.symm; subst q9; subst q8; subst q7
              refine r_astoreZ2 dJ1_fixAfterInsertion_54 ?_
              refine r_aloadZ2 dJ1_fixAfterInsertion_55 ?_
              refine r_callS (M' := mJ1_colorOf) _ dJ1_fixAfterInsertion_56 q2047 q2048 rfl (lw_all_tbl q2049) q128 (by exact pl_J1_colorOf)  (k_colorOfZ) (by omega) (Nat.le_of_ble_eq_true rfl) (by omega) (by omega) rfl (Nat.le_of_ble_eq_true rfl) rfl (kI fun r56 h56 n56 e56 => ?_) kN
              obtain ⟨q9, q8, q7⟩ := e56; have q9 := q9.symm; have q8 := q8.symm; have q7 := q7.symm; subst q9; subst q8; subst q7
              refine r_if_neN (tgt := 97) dJ1_fixAfterInsertion_59 (by decide) (by omega) (fun c59 => ?_) (fun c59 => absurd c59 (by omega))
              exact k_fix2L bm fa nd nmp _ h1 hm f1 c2 eg so ep sw ex sx1 sx2 eN2
            · obtain ⟨ku, vu, ul, ur, cu, U1, U2, eO, eu, -⟩ := so.mem
              have hu : (u, ku, vu) ∈ O := by rw [eO]; simp
              have pu : ¬ p = u := n5 (p, kp, vp) (mem_ls2.mpr (Or.inl rfl)) _ hu
              have xu : x ≠ u := n5 (x, kx, vx) (mem_ls2.mpr (Or.inr (Or.inl (by simp)))) _ hu
              have ug : u ≠ g := n4 _ hu
              have hu2 : (u, ku, vu) ∈ N := by rw [← eN2]; simp [mem_ls2, hu]
              cases cu with
              | true =>
                refine r_aload1 dJ1_fixAfterInsertion_5 ?_
                refine r_ifnull dJ1_fixAfterInsertion_6 ?_
                refine r_aload1 dJ1_fixAfterInsertion_9 ?_
                refine r_aload0 dJ1_fixAfterInsertion_10 ?_
                refine f_J1_101_J1 dJ1_fixAfterInsertion_11 (by first | assumption | exact g_us | (rw [g_un (by omega)]; assumption) | (rw [g_un (by omega)]; exact g_us) | (rw [g_un (by omega), g_un (by omega)]; assumption) | (rw [g_un (by omega), g_un (by omega)]; exact g_us) | (rw [g_un (by omega), g_un (by omega), g_un (by omega)]; assumption) | ((repeat (rw [g_un (by omega)])); first | exact g_us | assumption)) ?_
                refine r_acmp_eq (tgt := 258) dJ1_fixAfterInsertion_14 (by decide) (fun c14 => absurd c14 (hr)) (fun c14 => ?_)
                refine r_aload1 dJ1_fixAfterInsertion_17 ?_
                refine f_J1_124_J21 dJ1_fixAfterInsertion_18 (by first | assumption | exact g_us | (rw [g_un (by omega)]; assumption) | (rw [g_un (by omega)]; exact g_us) | (rw [g_un (by omega), g_un (by omega)]; assumption) | (rw [g_un (by omega), g_un (by omega)]; exact g_us) | (rw [g_un (by omega), g_un (by omega), g_un (by omega)]; assumption) | ((repeat (rw [g_un (by omega)])); first | exact g_us | assumption)) ?_
                refine f_J1_290_J21 dJ1_fixAfterInsertion_21 (by first | assumption | exact g_us | (rw [g_un (by omega)]; assumption) | (rw [g_un (by omega)]; exact g_us) | (rw [g_un (by omega), g_un (by omega)]; assumption) | (rw [g_un (by omega), g_un (by omega)]; exact g_us) | (rw [g_un (by omega), g_un (by omega), g_un (by omega)]; assumption) | ((repeat (rw [g_un (by omega)])); first | exact g_us | assumption)) ?_
                refine r_if_neN (tgt := 258) dJ1_fixAfterInsertion_24 (by decide) (by omega) (fun c24 => absurd c24 (by omega)) (fun c24 => ?_)
                refine r_aload1 dJ1_fixAfterInsertion_27 ?_
                refine r_callS (M' := mJ1_parentOf) _ dJ1_fixAfterInsertion_28 q2038 q2039 rfl (lw_all_tbl q2040) q128 (by exact pl_J1_parentOf)  ((k_parentOf ex (Or.inr ⟨_, rfl⟩))) (by omega) (Nat.le_of_ble_eq_true rfl) (by omega) (by omega) rfl (Nat.le_of_ble_eq_true rfl) rfl (kA fun r28 h28 n28 t28 e28 => ?_) kN
                obtain ⟨q9, q8, q7⟩ := e28; have q9 := q9.symm; have q8 := q8.symm; have q7 := q7.symm; subst q9; subst q8; subst q7
                refine r_aload1 dJ1_fixAfterInsertion_31 ?_
                refine r_callS (M' := mJ1_parentOf) _ dJ1_fixAfterInsertion_32 q2038 q2039 rfl (lw_all_tbl q2040) q128 (by exact pl_J1_parentOf)  ((k_parentOf ex (Or.inr ⟨_, rfl⟩))) (by omega) (Nat.le_of_ble_eq_true rfl) (by omega) (by omega) rfl (Nat.le_of_ble_eq_true rfl) rfl (kA fun r32 h32 n32 t32 e32 => ?_) kN
                obtain ⟨q9, q8, q7⟩ := e32; have q9 := q9.symm; have q8 := q8.symm; have q7 := q7.symm; subst q9; subst q8; subst q7
                refine r_callS (M' := mJ1_parentOf) _ dJ1_fixAfterInsertion_35 q2038 q2039 rfl (lw_all_tbl q2040) q128 (by exact pl_J1_parentOf)  ((k_parentOf epc (Or.inr ⟨_, rfl⟩))) (by omega) (Nat.le_of_ble_eq_true rfl) (by omega) (by omega) rfl (Nat.le_of_ble_eq_true rfl) rfl (kA fun r35 h35 n35 t35 e35 => ?_) kN
                obtain ⟨q9, q8, q7⟩ := e35; have q9 := q9.symm; have q8 := q8.symm; have q7 := q7.symm; subst q9; subst q8; subst q7
                refine r_callS (M' := mJ1_leftOf) _ dJ1_fixAfterInsertion_38 q2041 q2042 rfl (lw_all_tbl q2043) q128 (by exact pl_J1_leftOf)  ((k_leftOf eg' (Or.inr ⟨_, rfl⟩))) (by omega) (Nat.le_of_ble_eq_true rfl) (by omega) (by omega) rfl (Nat.le_of_ble_eq_true rfl) rfl (kA fun r38 h38 n38 t38 e38 => ?_) kN
                obtain ⟨q9, q8, q7⟩ := e38; have q9 := q9.symm; have q8 := q8.symm; have q7 := q7.symm; subst q9; subst q8; subst q7
                refine r_acmp_ne (tgt := 151) dJ1_fixAfterInsertion_41 (by decide) (fun c41 => absurd c41 ((fun z => z rfl))) (fun c41 => ?_)
                refine r_aload1 dJ1_fixAfterInsertion_44 ?_
                refine r_callS (M' := mJ1_parentOf) _ dJ1_fixAfterInsertion_45 q2038 q2039 rfl (lw_all_tbl q2040) q128 (by exact pl_J1_parentOf)  ((k_parentOf ex (Or.inr ⟨_, rfl⟩))) (by omega) (Nat.le_of_ble_eq_true rfl) (by omega) (by omega) rfl (Nat.le_of_ble_eq_true rfl) rfl (kA fun r45 h45 n45 t45 e45 => ?_) kN
                obtain ⟨q9, q8, q7⟩ := e45; have q9 := q9.symm; have q8 := q8.symm; have q7 := q7.symm; subst q9; subst q8; subst q7
                refine r_callS (M' := mJ1_parentOf) _ dJ1_fixAfterInsertion_48 q2038 q2039 rfl (lw_all_tbl q2040) q128 (by exact pl_J1_parentOf)  ((k_parentOf epc (Or.inr ⟨_, rfl⟩))) (by omega) (Nat.le_of_ble_eq_true rfl) (by omega) (by omega) rfl (Nat.le_of_ble_eq_true rfl) rfl (kA fun r48 h48 n48 t48 e48 => ?_) kN
                obtain ⟨q9, q8, q7⟩ := e48; have q9 := q9.symm; have q8 := q8.symm; have q7 := q7.symm; subst q9; subst q8; subst q7
                refine r_callS (M' := mJ1_rightOf) _ dJ1_fixAfterInsertion_51 q2044 q2045 rfl (lw_all_tbl q2046) q128 (by exact pl_J1_rightOf)  ((k_rightOf eg' (Or.inr ⟨_, rfl⟩))) (by omega) (Nat.le_of_ble_eq_true rfl) (by omega) (by omega) rfl (Nat.le_of_ble_eq_true rfl) rfl (kA fun r51 h51 n51 t51 e51 => ?_) kN
                obtain ⟨q9, q8, q7⟩ := e51; have q9 := q9.symm; have q8 := q8.symm; have q7 := q7.symm; subst q9; subst q8; subst q7
                refine r_astore2 dJ1_fixAfterInsertion_54 ?_
                refine r_aload2 dJ1_fixAfterInsertion_55 ?_
                refine r_callS (M' := mJ1_colorOf) _ dJ1_fixAfterInsertion_56 q2047 q2048 rfl (lw_all_tbl q2049) q128 (by exact pl_J1_colorOf)  ((k_colorOf eu)) (by omega) (Nat.le_of_ble_eq_true rfl) (by omega) (by omega) rfl (Nat.le_of_ble_eq_true rfl) rfl (kI fun r56 h56 n56 e56 => ?_) kN
                obtain ⟨q9, q8, q7⟩ := e56; have q9 := q9.symm; have q8 := q8.symm; have q7 := q7.symm; subst q9; subst q8; subst q7
                show g_G K mJ1_fixAfterInsertion 1 0 0 _ gN 59 [some (.ref mp), some (.ref x), some (.ref u)] [.int (nI 1)] _ _
                refine r_if_neN (tgt := 97) dJ1_fixAfterInsertion_59 (by decide) (by omega) (fun c59 => ?_) (fun c59 => absurd c59 (by omega))
                exact k_fix2L bm fa nd nmp _ h1 hm f1 c2 eg so ep sw ex sx1 sx2 eN2
              | false =>
                refine r_aload1 dJ1_fixAfterInsertion_5 ?_
                refine r_ifnull dJ1_fixAfterInsertion_6 ?_
                refine r_aload1 dJ1_fixAfterInsertion_9 ?_
                refine r_aload0 dJ1_fixAfterInsertion_10 ?_
                refine f_J1_101_J1 dJ1_fixAfterInsertion_11 (by first | assumption | exact g_us | (rw [g_un (by omega)]; assumption) | (rw [g_un (by omega)]; exact g_us) | (rw [g_un (by omega), g_un (by omega)]; assumption) | (rw [g_un (by omega), g_un (by omega)]; exact g_us) | (rw [g_un (by omega), g_un (by omega), g_un (by omega)]; assumption) | ((repeat (rw [g_un (by omega)])); first | exact g_us | assumption)) ?_
                refine r_acmp_eq (tgt := 258) dJ1_fixAfterInsertion_14 (by decide) (fun c14 => absurd c14 (hr)) (fun c14 => ?_)
                refine r_aload1 dJ1_fixAfterInsertion_17 ?_
                refine f_J1_124_J21 dJ1_fixAfterInsertion_18 (by first | assumption | exact g_us | (rw [g_un (by omega)]; assumption) | (rw [g_un (by omega)]; exact g_us) | (rw [g_un (by omega), g_un (by omega)]; assumption) | (rw [g_un (by omega), g_un (by omega)]; exact g_us) | (rw [g_un (by omega), g_un (by omega), g_un (by omega)]; assumption) | ((repeat (rw [g_un (by omega)])); first | exact g_us | assumption)) ?_
                refine f_J1_290_J21 dJ1_fixAfterInsertion_21 (by first | assumption | exact g_us | (rw [g_un (by omega)]; assumption) | (rw [g_un (by omega)]; exact g_us) | (rw [g_un (by omega), g_un (by omega)]; assumption) | (rw [g_un (by omega), g_un (by omega)]; exact g_us) | (rw [g_un (by omega), g_un (by omega), g_un (by omega)]; assumption) | ((repeat (rw [g_un (by omega)])); first | exact g_us | assumption)) ?_
                refine r_if_neN (tgt := 258) dJ1_fixAfterInsertion_24 (by decide) (by omega) (fun c24 => absurd c24 (by omega)) (fun c24 => ?_)
                refine r_aload1 dJ1_fixAfterInsertion_27 ?_
                refine r_callS (M' := mJ1_parentOf) _ dJ1_fixAfterInsertion_28 q2038 q2039 rfl (lw_all_tbl q2040) q128 (by exact pl_J1_parentOf)  ((k_parentOf ex (Or.inr ⟨_, rfl⟩))) (by omega) (Nat.le_of_ble_eq_true rfl) (by omega) (by omega) rfl (Nat.le_of_ble_eq_true rfl) rfl (kA fun r28 h28 n28 t28 e28 => ?_) kN
                obtain ⟨q9, q8, q7⟩ := e28; have q9 := q9.symm; have q8 := q8.symm; have q7 := q7.symm; subst q9; subst q8; subst q7
                refine r_aload1 dJ1_fixAfterInsertion_31 ?_
                refine r_callS (M' := mJ1_parentOf) _ dJ1_fixAfterInsertion_32 q2038 q2039 rfl (lw_all_tbl q2040) q128 (by exact pl_J1_parentOf)  ((k_parentOf ex (Or.inr ⟨_, rfl⟩))) (by omega) (Nat.le_of_ble_eq_true rfl) (by omega) (by omega) rfl (Nat.le_of_ble_eq_true rfl) rfl (kA fun r32 h32 n32 t32 e32 => ?_) kN
                obtain ⟨q9, q8, q7⟩ := e32; have q9 := q9.symm; have q8 := q8.symm; have q7 := q7.symm; subst q9; subst q8; subst q7
                refine r_callS (M' := mJ1_parentOf) _ dJ1_fixAfterInsertion_35 q2038 q2039 rfl (lw_all_tbl q2040) q128 (by exact pl_J1_parentOf)  ((k_parentOf epc (Or.inr ⟨_, rfl⟩))) (by omega) (Nat.le_of_ble_eq_true rfl) (by omega) (by omega) rfl (Nat.le_of_ble_eq_true rfl) rfl (kA fun r35 h35 n35 t35 e35 => ?_) kN
                obtain ⟨q9, q8, q7⟩ := e35; have q9 := q9.symm; have q8 := q8.symm; have q7 := q7.symm; subst q9; subst q8; subst q7
                refine r_callS (M' := mJ1_leftOf) _ dJ1_fixAfterInsertion_38 q2041 q2042 rfl (lw_all_tbl q2043) q128 (by exact pl_J1_leftOf)  ((k_leftOf eg' (Or.inr ⟨_, rfl⟩))) (by omega) (Nat.le_of_ble_eq_true rfl) (by omega) (by omega) rfl (Nat.le_of_ble_eq_true rfl) rfl (kA fun r38 h38 n38 t38 e38 => ?_) kN
                obtain ⟨q9, q8, q7⟩ := e38; have q9 := q9.symm; have q8 := q8.symm; have q7 := q7.symm; subst q9; subst q8; subst q7
                refine r_acmp_ne (tgt := 151) dJ1_fixAfterInsertion_41 (by decide) (fun c41 => absurd c41 ((fun z => z rfl))) (fun c41 => ?_)
                refine r_aload1 dJ1_fixAfterInsertion_44 ?_
                refine r_callS (M' := mJ1_parentOf) _ dJ1_fixAfterInsertion_45 q2038 q2039 rfl (lw_all_tbl q2040) q128 (by exact pl_J1_parentOf)  ((k_parentOf ex (Or.inr ⟨_, rfl⟩))) (by omega) (Nat.le_of_ble_eq_true rfl) (by omega) (by omega) rfl (Nat.le_of_ble_eq_true rfl) rfl (kA fun r45 h45 n45 t45 e45 => ?_) kN
                obtain ⟨q9, q8, q7⟩ := e45; have q9 := q9.symm; have q8 := q8.symm; have q7 := q7.symm; subst q9; subst q8; subst q7
                refine r_callS (M' := mJ1_parentOf) _ dJ1_fixAfterInsertion_48 q2038 q2039 rfl (lw_all_tbl q2040) q128 (by exact pl_J1_parentOf)  ((k_parentOf epc (Or.inr ⟨_, rfl⟩))) (by omega) (Nat.le_of_ble_eq_true rfl) (by omega) (by omega) rfl (Nat.le_of_ble_eq_true rfl) rfl (kA fun r48 h48 n48 t48 e48 => ?_) kN
                obtain ⟨q9, q8, q7⟩ := e48; have q9 := q9.symm; have q8 := q8.symm; have q7 := q7.symm; subst q9; subst q8; subst q7
                refine r_callS (M' := mJ1_rightOf) _ dJ1_fixAfterInsertion_51 q2044 q2045 rfl (lw_all_tbl q2046) q128 (by exact pl_J1_rightOf)  ((k_rightOf eg' (Or.inr ⟨_, rfl⟩))) (by omega) (Nat.le_of_ble_eq_true rfl) (by omega) (by omega) rfl (Nat.le_of_ble_eq_true rfl) rfl (kA fun r51 h51 n51 t51 e51 => ?_) kN
                obtain ⟨q9, q8, q7⟩ := e51; have q9 := q9.symm; have q8 := q8.symm; have q7 := q7.symm; subst q9; subst q8; subst q7
                refine r_astore2 dJ1_fixAfterInsertion_54 ?_
                refine r_aload2 dJ1_fixAfterInsertion_55 ?_
                refine r_callS (M' := mJ1_colorOf) _ dJ1_fixAfterInsertion_56 q2047 q2048 rfl (lw_all_tbl q2049) q128 (by exact pl_J1_colorOf)  ((k_colorOf eu)) (by omega) (Nat.le_of_ble_eq_true rfl) (by omega) (by omega) rfl (Nat.le_of_ble_eq_true rfl) rfl (kI fun r56 h56 n56 e56 => ?_) kN
                obtain ⟨q9, q8, q7⟩ := e56; have q9 := q9.symm; have q8 := q8.symm; have q7 := q7.symm; subst q9; subst q8; subst q7
                show g_G K mJ1_fixAfterInsertion 1 0 0 _ gN 59 [some (.ref mp), some (.ref x), some (.ref u)] [.int (nI 0)] _ _
                refine r_if_neN (tgt := 97) dJ1_fixAfterInsertion_59 (by decide) (by omega) (fun c59 => absurd c59 (by omega)) (fun c59 => ?_)
                refine r_aload1 dJ1_fixAfterInsertion_62 ?_
                refine r_callS (M' := mJ1_parentOf) _ dJ1_fixAfterInsertion_63 q2038 q2039 rfl (lw_all_tbl q2040) q128 (by exact pl_J1_parentOf)  ((k_parentOf ex (Or.inr ⟨_, rfl⟩))) (by omega) (Nat.le_of_ble_eq_true rfl) (by omega) (by omega) rfl (Nat.le_of_ble_eq_true rfl) rfl (kA fun r63 h63 n63 t63 e63 => ?_) kN
                obtain ⟨q9, q8, q7⟩ := e63; have q9 := q9.symm; have q8 := q8.symm; have q7 := q7.symm; subst q9; subst q8; subst q7
                refine r_iconst (v := nI 1) dJ1_fixAfterInsertion_66 (by decide) ?_
                refine r_callS (M' := mJ1_setColor) _ dJ1_fixAfterInsertion_67 q2050 q2051 rfl (lw_all_tbl q2052) q128 (by exact pl_J1_setColor)  ((k_setColor1 (fa _ hp) epc)) (by omega) (Nat.le_of_ble_eq_true rfl) (by omega) (by omega) rfl (Nat.le_of_ble_eq_true rfl) rfl (kV fun h67 n67 e67 => ?_) kN
                obtain ⟨rfl, rfl⟩ := e67
                refine r_aload2 dJ1_fixAfterInsertion_70 ?_
                refine r_iconst (v := nI 1) dJ1_fixAfterInsertion_71 (by decide) ?_
                refine r_callS (M' := mJ1_setColor) _ dJ1_fixAfterInsertion_72 q2050 q2051 rfl (lw_all_tbl q2052) q128 (by exact pl_J1_setColor)  ((k_setColor1 (fa _ hu2) (by rw [g_un (Ne.symm pu)]; exact eu))) (by omega) (Nat.le_of_ble_eq_true rfl) (by omega) (by omega) rfl (Nat.le_of_ble_eq_true rfl) rfl (kV fun h72 n72 e72 => ?_) kN
                obtain ⟨rfl, rfl⟩ := e72
                refine r_aload1 dJ1_fixAfterInsertion_75 ?_
                refine r_callS (M' := mJ1_parentOf) _ dJ1_fixAfterInsertion_76 q2038 q2039 rfl (lw_all_tbl q2040) q128 (by exact pl_J1_parentOf)  ((k_parentOf (by rw [g_un xu, g_un xp]; exact ex) (Or.inr ⟨_, rfl⟩))) (by omega) (Nat.le_of_ble_eq_true rfl) (by omega) (by omega) rfl (Nat.le_of_ble_eq_true rfl) rfl (kA fun r76 h76 n76 t76 e76 => ?_) kN
                obtain ⟨q9, q8, q7⟩ := e76; have q9 := q9.symm; have q8 := q8.symm; have q7 := q7.symm; subst q9; subst q8; subst q7
                refine r_callS (M' := mJ1_parentOf) _ dJ1_fixAfterInsertion_79 q2038 q2039 rfl (lw_all_tbl q2040) q128 (by exact pl_J1_parentOf)  ((k_parentOf (by rw [g_un pu, g_us]) (Or.inr ⟨_, rfl⟩))) (by omega) (Nat.le_of_ble_eq_true rfl) (by omega) (by omega) rfl (Nat.le_of_ble_eq_true rfl) rfl (kA fun r79 h79 n79 t79 e79 => ?_) kN
                obtain ⟨q9, q8, q7⟩ := e79; have q9 := q9.symm; have q8 := q8.symm; have q7 := q7.symm; subst q9; subst q8; subst q7
                refine r_iconst (v := nI 0) dJ1_fixAfterInsertion_82 (by decide) ?_
                refine r_callS (M' := mJ1_setColor) _ dJ1_fixAfterInsertion_83 q2050 q2051 rfl (lw_all_tbl q2052) q128 (by exact pl_J1_setColor)  ((k_setColor0 (fa _ hg) (by rw [g_un (Ne.symm ug), g_un (Ne.symm pg)]; exact eg'))) (by omega) (Nat.le_of_ble_eq_true rfl) (by omega) (by omega) rfl (Nat.le_of_ble_eq_true rfl) rfl (kV fun h83 n83 e83 => ?_) kN
                obtain ⟨rfl, rfl⟩ := e83
                refine r_aload1 dJ1_fixAfterInsertion_86 ?_
                refine r_callS (M' := mJ1_parentOf) _ dJ1_fixAfterInsertion_87 q2038 q2039 rfl (lw_all_tbl q2040) q128 (by exact pl_J1_parentOf)  ((k_parentOf (by rw [g_un xg, g_un xu, g_un xp]; exact ex) (Or.inr ⟨_, rfl⟩))) (by omega) (Nat.le_of_ble_eq_true rfl) (by omega) (by omega) rfl (Nat.le_of_ble_eq_true rfl) rfl (kA fun r87 h87 n87 t87 e87 => ?_) kN
                obtain ⟨q9, q8, q7⟩ := e87; have q9 := q9.symm; have q8 := q8.symm; have q7 := q7.symm; subst q9; subst q8; subst q7
                refine r_callS (M' := mJ1_parentOf) _ dJ1_fixAfterInsertion_90 q2038 q2039 rfl (lw_all_tbl q2040) q128 (by exact pl_J1_parentOf)  ((k_parentOf (by rw [g_un pg, g_un pu, g_us]) (Or.inr ⟨_, rfl⟩))) (by omega) (Nat.le_of_ble_eq_true rfl) (by omega) (by omega) rfl (Nat.le_of_ble_eq_true rfl) rfl (kA fun r90 h90 n90 t90 e90 => ?_) kN
                obtain ⟨q9, q8, q7⟩ := e90; have q9 := q9.symm; have q8 := q8.symm; have q7 := q7.symm; subst q9; subst q8; subst q7
                refine r_astore1 dJ1_fixAfterInsertion_93 ?_
                refine r_goto (tgt := 148) dJ1_fixAfterInsertion_94 (by decide) ?_
                refine r_goto (tgt := 5) dJ1_fixAfterInsertion_148 (by decide) ?_
                exact up u ku vu ul ur false rfl eu hu _ rfl _
          | true =>
            have eg' : h1 g = some (nC kg vg o (.ref p) qg cg) := eg
            rcases so.vr with rfl | ⟨u, rfl⟩
            · skip
              refine r_aload1 dJ1_fixAfterInsertion_5 ?_
              refine r_ifnull dJ1_fixAfterInsertion_6 ?_
              refine r_aload1 dJ1_fixAfterInsertion_9 ?_
              refine r_aload0 dJ1_fixAfterInsertion_10 ?_
              refine f_J1_101_J1 dJ1_fixAfterInsertion_11 (by first | assumption | exact g_us | (rw [g_un (by omega)]; assumption) | (rw [g_un (by omega)]; exact g_us) | (rw [g_un (by omega), g_un (by omega)]; assumption) | (rw [g_un (by omega), g_un (by omega)]; exact g_us) | (rw [g_un (by omega), g_un (by omega), g_un (by omega)]; assumption) | ((repeat (rw [g_un (by omega)])); first | exact g_us | assumption)) ?_
              refine r_acmp_eq (tgt := 258) dJ1_fixAfterInsertion_14 (by decide) (fun c14 => absurd c14 (hr)) (fun c14 => ?_)
              refine r_aload1 dJ1_fixAfterInsertion_17 ?_
              refine f_J1_124_J21 dJ1_fixAfterInsertion_18 (by first | assumption | exact g_us | (rw [g_un (by omega)]; assumption) | (rw [g_un (by omega)]; exact g_us) | (rw [g_un (by omega), g_un (by omega)]; assumption) | (rw [g_un (by omega), g_un (by omega)]; exact g_us) | (rw [g_un (by omega), g_un (by omega), g_un (by omega)]; assumption) | ((repeat (rw [g_un (by omega)])); first | exact g_us | assumption)) ?_
              refine f_J1_290_J21 dJ1_fixAfterInsertion_21 (by first | assumption | exact g_us | (rw [g_un (by omega)]; assumption) | (rw [g_un (by omega)]; exact g_us) | (rw [g_un (by omega), g_un (by omega)]; assumption) | (rw [g_un (by omega), g_un (by omega)]; exact g_us) | (rw [g_un (by omega), g_un (by omega), g_un (by omega)]; assumption) | ((repeat (rw [g_un (by omega)])); first | exact g_us | assumption)) ?_
              refine r_if_neN (tgt := 258) dJ1_fixAfterInsertion_24 (by decide) (by omega) (fun c24 => absurd c24 (by omega)) (fun c24 => ?_)
              refine r_aload1 dJ1_fixAfterInsertion_27 ?_
              refine r_callS (M' := mJ1_parentOf) _ dJ1_fixAfterInsertion_28 q2038 q2039 rfl (lw_all_tbl q2040) q128 (by exact pl_J1_parentOf)  ((k_parentOf ex (Or.inr ⟨_, rfl⟩))) (by omega) (Nat.le_of_ble_eq_true rfl) (by omega) (by omega) rfl (Nat.le_of_ble_eq_true rfl) rfl (kA fun r28 h28 n28 t28 e28 => ?_) kN
              obtain ⟨q9, q8, q7⟩ := e28; have q9 := q9.symm; have q8 := q8.symm; have q7 := q7.symm; subst q9; subst q8; subst q7
              refine r_aload1 dJ1_fixAfterInsertion_31 ?_
              refine r_callS (M' := mJ1_parentOf) _ dJ1_fixAfterInsertion_32 q2038 q2039 rfl (lw_all_tbl q2040) q128 (by exact pl_J1_parentOf)  ((k_parentOf ex (Or.inr ⟨_, rfl⟩))) (by omega) (Nat.le_of_ble_eq_true rfl) (by omega) (by omega) rfl (Nat.le_of_ble_eq_true rfl) rfl (kA fun r32 h32 n32 t32 e32 => ?_) kN
              obtain ⟨q9, q8, q7⟩ := e32; have q9 := q9.symm; have q8 := q8.symm; have q7 := q7.symm; subst q9; subst q8; subst q7
              refine r_callS (M' := mJ1_parentOf) _ dJ1_fixAfterInsertion_35 q2038 q2039 rfl (lw_all_tbl q2040) q128 (by exact pl_J1_parentOf)  ((k_parentOf epc (Or.inr ⟨_, rfl⟩))) (by omega) (Nat.le_of_ble_eq_true rfl) (by omega) (by omega) rfl (Nat.le_of_ble_eq_true rfl) rfl (kA fun r35 h35 n35 t35 e35 => ?_) kN
              obtain ⟨q9, q8, q7⟩ := e35; have q9 := q9.symm; have q8 := q8.symm; have q7 := q7.symm; subst q9; subst q8; subst q7
              refine r_callS (M' := mJ1_leftOf) _ dJ1_fixAfterInsertion_38 q2041 q2042 rfl (lw_all_tbl q2043) q128 (by exact pl_J1_leftOf)  ((k_leftOf eg' (Or.inl rfl))) (by omega) (Nat.le_of_ble_eq_true rfl) (by omega) (by omega) rfl (Nat.le_of_ble_eq_true rfl) rfl (kA fun r38 h38 n38 t38 e38 => ?_) kN
              obtain ⟨q9, q8, q7⟩ := e38; have q9 := q9.symm; have q8 := q8.symm; have q7 := q7.symm; subst q9; subst q8; subst q7
              refine r_acmp_neRZ (tgt := 151) dJ1_fixAfterInsertion_41 (by decide) ?_
              refine r_aload1 dJ1_fixAfterInsertion_151 ?_
              refine r_callS (M' := mJ1_parentOf) _ dJ1_fixAfterInsertion_152 q2038 q2039 rfl (lw_all_tbl q2040) q128 (by exact pl_J1_parentOf)  ((k_parentOf ex (Or.inr ⟨_, rfl⟩))) (by omega) (Nat.le_of_ble_eq_true rfl) (by omega) (by omega) rfl (Nat.le_of_ble_eq_true rfl) rfl (kA fun r152 h152 n152 t152 e152 => ?_) kN
              obtain ⟨q9, q8, q7⟩ := e152; have q9 := q9.symm; have q8 := q8.symm; have q7 := q7.symm; subst q9; subst q8; subst q7
              refine r_callS (M' := mJ1_parentOf) _ dJ1_fixAfterInsertion_155 q2038 q2039 rfl (lw_all_tbl q2040) q128 (by exact pl_J1_parentOf)  ((k_parentOf epc (Or.inr ⟨_, rfl⟩))) (by omega) (Nat.le_of_ble_eq_true rfl) (by omega) (by omega) rfl (Nat.le_of_ble_eq_true rfl) rfl (kA fun r155 h155 n155 t155 e155 => ?_) kN
              obtain ⟨q9, q8, q7⟩ := e155; have q9 := q9.symm; have q8 := q8.symm; have q7 := q7.symm; subst q9; subst q8; subst q7
              refine r_callS (M' := mJ1_leftOf) _ dJ1_fixAfterInsertion_158 q2041 q2042 rfl (lw_all_tbl q2043) q128 (by exact pl_J1_leftOf)  ((k_leftOf eg' (Or.inl rfl))) (by omega) (Nat.le_of_ble_eq_true rfl) (by omega) (by omega) rfl (Nat.le_of_ble_eq_true rfl) rfl (kA fun r158 h158 n158 t158 e158 => ?_) kN
              obtain ⟨q9, q8, q7⟩ := e158; have q9 := q9.symm; have q8 := q8.symm; have q7 := q7.symm; subst q9; subst q8; subst q7
              refine r_astoreZ2 dJ1_fixAfterInsertion_161 ?_
              refine r_aloadZ2 dJ1_fixAfterInsertion_162 ?_
              refine r_callS (M' := mJ1_colorOf) _ dJ1_fixAfterInsertion_163 q2047 q2048 rfl (lw_all_tbl q2049) q128 (by exact pl_J1_colorOf)  (k_colorOfZ) (by omega) (Nat.le_of_ble_eq_true rfl) (by omega) (by omega) rfl (Nat.le_of_ble_eq_true rfl) rfl (kI fun r163 h163 n163 e163 => ?_) kN
              obtain ⟨q9, q8, q7⟩ := e163; have q9 := q9.symm; have q8 := q8.symm; have q7 := q7.symm; subst q9; subst q8; subst q7
              refine r_if_neN (tgt := 204) dJ1_fixAfterInsertion_166 (by decide) (by omega) (fun c166 => ?_) (fun c166 => absurd c166 (by omega))
              exact k_fix2R bm fa nd nmp _ h1 hm f1 c2 eg so ep sw ex sx1 sx2 eN2
            · obtain ⟨ku, vu, ul, ur, cu, U1, U2, eO, eu, -⟩ := so.mem
              have hu : (u, ku, vu) ∈ O := by rw [eO]; simp
              have pu : ¬ p = u := n5 (p, kp, vp) (mem_ls2.mpr (Or.inl rfl)) _ hu
              have xu : x ≠ u := n5 (x, kx, vx) (mem_ls2.mpr (Or.inr (Or.inl (by simp)))) _ hu
              have ug : u ≠ g := n4 _ hu
              have hu2 : (u, ku, vu) ∈ N := by rw [← eN2]; simp [mem_ls2, hu]
              cases cu with
              | true =>
                refine r_aload1 dJ1_fixAfterInsertion_5 ?_
                refine r_ifnull dJ1_fixAfterInsertion_6 ?_
                refine r_aload1 dJ1_fixAfterInsertion_9 ?_
                refine r_aload0 dJ1_fixAfterInsertion_10 ?_
                refine f_J1_101_J1 dJ1_fixAfterInsertion_11 (by first | assumption | exact g_us | (rw [g_un (by omega)]; assumption) | (rw [g_un (by omega)]; exact g_us) | (rw [g_un (by omega), g_un (by omega)]; assumption) | (rw [g_un (by omega), g_un (by omega)]; exact g_us) | (rw [g_un (by omega), g_un (by omega), g_un (by omega)]; assumption) | ((repeat (rw [g_un (by omega)])); first | exact g_us | assumption)) ?_
                refine r_acmp_eq (tgt := 258) dJ1_fixAfterInsertion_14 (by decide) (fun c14 => absurd c14 (hr)) (fun c14 => ?_)
                refine r_aload1 dJ1_fixAfterInsertion_17 ?_
                refine f_J1_124_J21 dJ1_fixAfterInsertion_18 (by first | assumption | exact g_us | (rw [g_un (by omega)]; assumption) | (rw [g_un (by omega)]; exact g_us) | (rw [g_un (by omega), g_un (by omega)]; assumption) | (rw [g_un (by omega), g_un (by omega)]; exact g_us) | (rw [g_un (by omega), g_un (by omega), g_un (by omega)]; assumption) | ((repeat (rw [g_un (by omega)])); first | exact g_us | assumption)) ?_
                refine f_J1_290_J21 dJ1_fixAfterInsertion_21 (by first | assumption | exact g_us | (rw [g_un (by omega)]; assumption) | (rw [g_un (by omega)]; exact g_us) | (rw [g_un (by omega), g_un (by omega)]; assumption) | (rw [g_un (by omega), g_un (by omega)]; exact g_us) | (rw [g_un (by omega), g_un (by omega), g_un (by omega)]; assumption) | ((repeat (rw [g_un (by omega)])); first | exact g_us | assumption)) ?_
                refine r_if_neN (tgt := 258) dJ1_fixAfterInsertion_24 (by decide) (by omega) (fun c24 => absurd c24 (by omega)) (fun c24 => ?_)
                refine r_aload1 dJ1_fixAfterInsertion_27 ?_
                refine r_callS (M' := mJ1_parentOf) _ dJ1_fixAfterInsertion_28 q2038 q2039 rfl (lw_all_tbl q2040) q128 (by exact pl_J1_parentOf)  ((k_parentOf ex (Or.inr ⟨_, rfl⟩))) (by omega) (Nat.le_of_ble_eq_true rfl) (by omega) (by omega) rfl (Nat.le_of_ble_eq_true rfl) rfl (kA fun r28 h28 n28 t28 e28 => ?_) kN
                obtain ⟨q9, q8, q7⟩ := e28; have q9 := q9.symm; have q8 := q8.symm; have q7 := q7.symm; subst q9; subst q8; subst q7
                refine r_aload1 dJ1_fixAfterInsertion_31 ?_
                refine r_callS (M' := mJ1_parentOf) _ dJ1_fixAfterInsertion_32 q2038 q2039 rfl (lw_all_tbl q2040) q128 (by exact pl_J1_parentOf)  ((k_parentOf ex (Or.inr ⟨_, rfl⟩))) (by omega) (Nat.le_of_ble_eq_true rfl) (by omega) (by omega) rfl (Nat.le_of_ble_eq_true rfl) rfl (kA fun r32 h32 n32 t32 e32 => ?_) kN
                obtain ⟨q9, q8, q7⟩ := e32; have q9 := q9.symm; have q8 := q8.symm; have q7 := q7.symm; subst q9; subst q8; subst q7
                refine r_callS (M' := mJ1_parentOf) _ dJ1_fixAfterInsertion_35 q2038 q2039 rfl (lw_all_tbl q2040) q128 (by exact pl_J1_parentOf)  ((k_parentOf epc (Or.inr ⟨_, rfl⟩))) (by omega) (Nat.le_of_ble_eq_true rfl) (by omega) (by omega) rfl (Nat.le_of_ble_eq_true rfl) rfl (kA fun r35 h35 n35 t35 e35 => ?_) kN
                obtain ⟨q9, q8, q7⟩ := e35; have q9 := q9.symm; have q8 := q8.symm; have q7 := q7.symm; subst q9; subst q8; subst q7
                refine r_callS (M' := mJ1_leftOf) _ dJ1_fixAfterInsertion_38 q2041 q2042 rfl (lw_all_tbl q2043) q128 (by exact pl_J1_leftOf)  ((k_leftOf eg' (Or.inr ⟨_, rfl⟩))) (by omega) (Nat.le_of_ble_eq_true rfl) (by omega) (by omega) rfl (Nat.le_of_ble_eq_true rfl) rfl (kA fun r38 h38 n38 t38 e38 => ?_) kN
                obtain ⟨q9, q8, q7⟩ := e38; have q9 := q9.symm; have q8 := q8.symm; have q7 := q7.symm; subst q9; subst q8; subst q7
                refine r_acmp_ne (tgt := 151) dJ1_fixAfterInsertion_41 (by decide) (fun c41 => ?_) (fun c41 => absurd c41 pu)
                refine r_aload1 dJ1_fixAfterInsertion_151 ?_
                refine r_callS (M' := mJ1_parentOf) _ dJ1_fixAfterInsertion_152 q2038 q2039 rfl (lw_all_tbl q2040) q128 (by exact pl_J1_parentOf)  ((k_parentOf ex (Or.inr ⟨_, rfl⟩))) (by omega) (Nat.le_of_ble_eq_true rfl) (by omega) (by omega) rfl (Nat.le_of_ble_eq_true rfl) rfl (kA fun r152 h152 n152 t152 e152 => ?_) kN
                obtain ⟨q9, q8, q7⟩ := e152; have q9 := q9.symm; have q8 := q8.symm; have q7 := q7.symm; subst q9; subst q8; subst q7
                refine r_callS (M' := mJ1_parentOf) _ dJ1_fixAfterInsertion_155 q2038 q2039 rfl (lw_all_tbl q2040) q128 (by exact pl_J1_parentOf)  ((k_parentOf epc (Or.inr ⟨_, rfl⟩))) (by omega) (Nat.le_of_ble_eq_true rfl) (by omega) (by omega) rfl (Nat.le_of_ble_eq_true rfl) rfl (kA fun r155 h155 n155 t155 e155 => ?_) kN
                obtain ⟨q9, q8, q7⟩ := e155; have q9 := q9.symm; have q8 := q8.symm; have q7 := q7.symm; subst q9; subst q8; subst q7
                refine r_callS (M' := mJ1_leftOf) _ dJ1_fixAfterInsertion_158 q2041 q2042 rfl (lw_all_tbl q2043) q128 (by exact pl_J1_leftOf)  ((k_leftOf eg' (Or.inr ⟨_, rfl⟩))) (by omega) (Nat.le_of_ble_eq_true rfl) (by omega) (by omega) rfl (Nat.le_of_ble_eq_true rfl) rfl (kA fun r158 h158 n158 t158 e158 => ?_) kN
                obtain ⟨q9, q8, q7⟩ := e158; have q9 := q9.symm; have q8 := q8.symm; have q7 := q7.symm; subst q9; subst q8; subst q7
                refine r_astore2 dJ1_fixAfterInsertion_161 ?_
                refine r_aload2 dJ1_fixAfterInsertion_162 ?_
                refine r_callS (M' := mJ1_colorOf) _ dJ1_fixAfterInsertion_163 q2047 q2048 rfl (lw_all_tbl q2049) q128 (by exact pl_J1_colorOf)  ((k_colorOf eu)) (by omega) (Nat.le_of_ble_eq_true rfl) (by omega) (by omega) rfl (Nat.le_of_ble_eq_true rfl) rfl (kI fun r163 h163 n163 e163 => ?_) kN
                obtain ⟨q9, q8, q7⟩ := e163; have q9 := q9.symm; have q8 := q8.symm; have q7 := q7.symm; subst q9; subst q8; subst q7
                show g_G K mJ1_fixAfterInsertion 1 0 0 _ gN 166 [some (.ref mp), some (.ref x), some (.ref u)] [.int (nI 1)] _ _
                refine r_if_neN (tgt := 204) dJ1_fixAfterInsertion_166 (by decide) (by omega) (fun c166 => ?_) (fun c166 => absurd c166 (by omega))
                exact k_fix2R bm fa nd nmp _ h1 hm f1 c2 eg so ep sw ex sx1 sx2 eN2
              | false =>
                refine r_aload1 dJ1_fixAfterInsertion_5 ?_
                refine r_ifnull dJ1_fixAfterInsertion_6 ?_
                refine r_aload1 dJ1_fixAfterInsertion_9 ?_
                refine r_aload0 dJ1_fixAfterInsertion_10 ?_
                refine f_J1_101_J1 dJ1_fixAfterInsertion_11 (by first | assumption | exact g_us | (rw [g_un (by omega)]; assumption) | (rw [g_un (by omega)]; exact g_us) | (rw [g_un (by omega), g_un (by omega)]; assumption) | (rw [g_un (by omega), g_un (by omega)]; exact g_us) | (rw [g_un (by omega), g_un (by omega), g_un (by omega)]; assumption) | ((repeat (rw [g_un (by omega)])); first | exact g_us | assumption)) ?_
                refine r_acmp_eq (tgt := 258) dJ1_fixAfterInsertion_14 (by decide) (fun c14 => absurd c14 (hr)) (fun c14 => ?_)
                refine r_aload1 dJ1_fixAfterInsertion_17 ?_
                refine f_J1_124_J21 dJ1_fixAfterInsertion_18 (by first | assumption | exact g_us | (rw [g_un (by omega)]; assumption) | (rw [g_un (by omega)]; exact g_us) | (rw [g_un (by omega), g_un (by omega)]; assumption) | (rw [g_un (by omega), g_un (by omega)]; exact g_us) | (rw [g_un (by omega), g_un (by omega), g_un (by omega)]; assumption) | ((repeat (rw [g_un (by omega)])); first | exact g_us | assumption)) ?_
                refine f_J1_290_J21 dJ1_fixAfterInsertion_21 (by first | assumption | exact g_us | (rw [g_un (by omega)]; assumption) | (rw [g_un (by omega)]; exact g_us) | (rw [g_un (by omega), g_un (by omega)]; assumption) | (rw [g_un (by omega), g_un (by omega)]; exact g_us) | (rw [g_un (by omega), g_un (by omega), g_un (by omega)]; assumption) | ((repeat (rw [g_un (by omega)])); first | exact g_us | assumption)) ?_
                refine r_if_neN (tgt := 258) dJ1_fixAfterInsertion_24 (by decide) (by omega) (fun c24 => absurd c24 (by omega)) (fun c24 => ?_)
                refine r_aload1 dJ1_fixAfterInsertion_27 ?_
                refine r_callS (M' := mJ1_parentOf) _ dJ1_fixAfterInsertion_28 q2038 q2039 rfl (lw_all_tbl q2040) q128 (by exact pl_J1_parentOf)  ((k_parentOf ex (Or.inr ⟨_, rfl⟩))) (by omega) (Nat.le_of_ble_eq_true rfl) (by omega) (by omega) rfl (Nat.le_of_ble_eq_true rfl) rfl (kA fun r28 h28 n28 t28 e28 => ?_) kN
                obtain ⟨q9, q8, q7⟩ := e28; have q9 := q9.symm; have q8 := q8.symm; have q7 := q7.symm; subst q9; subst q8; subst q7
                refine r_aload1 dJ1_fixAfterInsertion_31 ?_
                refine r_callS (M' := mJ1_parentOf) _ dJ1_fixAfterInsertion_32 q2038 q2039 rfl (lw_all_tbl q2040) q128 (by exact pl_J1_parentOf)  ((k_parentOf ex (Or.inr ⟨_, rfl⟩))) (by omega) (Nat.le_of_ble_eq_true rfl) (by omega) (by omega) rfl (Nat.le_of_ble_eq_true rfl) rfl (kA fun r32 h32 n32 t32 e32 => ?_) kN
                obtain ⟨q9, q8, q7⟩ := e32; have q9 := q9.symm; have q8 := q8.symm; have q7 := q7.symm; subst q9; subst q8; subst q7
                refine r_callS (M' := mJ1_parentOf) _ dJ1_fixAfterInsertion_35 q2038 q2039 rfl (lw_all_tbl q2040) q128 (by exact pl_J1_parentOf)  ((k_parentOf epc (Or.inr ⟨_, rfl⟩))) (by omega) (Nat.le_of_ble_eq_true rfl) (by omega) (by omega) rfl (Nat.le_of_ble_eq_true rfl) rfl (kA fun r35 h35 n35 t35 e35 => ?_) kN
                obtain ⟨q9, q8, q7⟩ := e35; have q9 := q9.symm; have q8 := q8.symm; have q7 := q7.symm; subst q9; subst q8; subst q7
                refine r_callS (M' := mJ1_leftOf) _ dJ1_fixAfterInsertion_38 q2041 q2042 rfl (lw_all_tbl q2043) q128 (by exact pl_J1_leftOf)  ((k_leftOf eg' (Or.inr ⟨_, rfl⟩))) (by omega) (Nat.le_of_ble_eq_true rfl) (by omega) (by omega) rfl (Nat.le_of_ble_eq_true rfl) rfl (kA fun r38 h38 n38 t38 e38 => ?_) kN
                obtain ⟨q9, q8, q7⟩ := e38; have q9 := q9.symm; have q8 := q8.symm; have q7 := q7.symm; subst q9; subst q8; subst q7
                refine r_acmp_ne (tgt := 151) dJ1_fixAfterInsertion_41 (by decide) (fun c41 => ?_) (fun c41 => absurd c41 pu)
                refine r_aload1 dJ1_fixAfterInsertion_151 ?_
                refine r_callS (M' := mJ1_parentOf) _ dJ1_fixAfterInsertion_152 q2038 q2039 rfl (lw_all_tbl q2040) q128 (by exact pl_J1_parentOf)  ((k_parentOf ex (Or.inr ⟨_, rfl⟩))) (by omega) (Nat.le_of_ble_eq_true rfl) (by omega) (by omega) rfl (Nat.le_of_ble_eq_true rfl) rfl (kA fun r152 h152 n152 t152 e152 => ?_) kN
                obtain ⟨q9, q8, q7⟩ := e152; have q9 := q9.symm; have q8 := q8.symm; have q7 := q7.symm; subst q9; subst q8; subst q7
                refine r_callS (M' := mJ1_parentOf) _ dJ1_fixAfterInsertion_155 q2038 q2039 rfl (lw_all_tbl q2040) q128 (by exact pl_J1_parentOf)  ((k_parentOf epc (Or.inr ⟨_, rfl⟩))) (by omega) (Nat.le_of_ble_eq_true rfl) (by omega) (by omega) rfl (Nat.le_of_ble_eq_true rfl) rfl (kA fun r155 h155 n155 t155 e155 => ?_) kN
                obtain ⟨q9, q8, q7⟩ := e155; have q9 := q9.symm; have q8 := q8.symm; have q7 := q7.symm; subst q9; subst q8; subst q7
                refine r_callS (M' := mJ1_leftOf) _ dJ1_fixAfterInsertion_158 q2041 q2042 rfl (lw_all_tbl q2043) q128 (by exact pl_J1_leftOf)  ((k_leftOf eg' (Or.inr ⟨_, rfl⟩))) (by omega) (Nat.le_of_ble_eq_true rfl) (by omega) (by omega) rfl (Nat.le_of_ble_eq_true rfl) rfl (kA fun r158 h158 n158 t158 e158 => ?_) kN
                obtain ⟨q9, q8, q7⟩ := e158; have q9 := q9.symm; have q8 := q8.symm; have q7 := q7.symm; subst q9; subst q8; subst q7
                refine r_astore2 dJ1_fixAfterInsertion_161 ?_
                refine r_aload2 dJ1_fixAfterInsertion_162 ?_
                refine r_callS (M' := mJ1_colorOf) _ dJ1_fixAfterInsertion_163 q2047 q2048 rfl (lw_all_tbl q2049) q128 (by exact pl_J1_colorOf)  ((k_colorOf eu)) (by omega) (Nat.le_of_ble_eq_true rfl) (by omega) (by omega) rfl (Nat.le_of_ble_eq_true rfl) rfl (kI fun r163 h163 n163 e163 => ?_) kN
                obtain ⟨q9, q8, q7⟩ := e163; have q9 := q9.symm; have q8 := q8.symm; have q7 := q7.symm; subst q9; subst q8; subst q7
                show g_G K mJ1_fixAfterInsertion 1 0 0 _ gN 166 [some (.ref mp), some (.ref x), some (.ref u)] [.int (nI 0)] _ _
                refine r_if_neN (tgt := 204) dJ1_fixAfterInsertion_166 (by decide) (by omega) (fun c166 => absurd c166 (by omega)) (fun c166 => ?_)
                refine r_aload1 dJ1_fixAfterInsertion_169 ?_
                refine r_callS (M' := mJ1_parentOf) _ dJ1_fixAfterInsertion_170 q2038 q2039 rfl (lw_all_tbl q2040) q128 (by exact pl_J1_parentOf)  ((k_parentOf ex (Or.inr ⟨_, rfl⟩))) (by omega) (Nat.le_of_ble_eq_true rfl) (by omega) (by omega) rfl (Nat.le_of_ble_eq_true rfl) rfl (kA fun r170 h170 n170 t170 e170 => ?_) kN
                obtain ⟨q9, q8, q7⟩ := e170; have q9 := q9.symm; have q8 := q8.symm; have q7 := q7.symm; subst q9; subst q8; subst q7
                refine r_iconst (v := nI 1) dJ1_fixAfterInsertion_173 (by decide) ?_
                refine r_callS (M' := mJ1_setColor) _ dJ1_fixAfterInsertion_174 q2050 q2051 rfl (lw_all_tbl q2052) q128 (by exact pl_J1_setColor)  ((k_setColor1 (fa _ hp) epc)) (by omega) (Nat.le_of_ble_eq_true rfl) (by omega) (by omega) rfl (Nat.le_of_ble_eq_true rfl) rfl (kV fun h174 n174 e174 => ?_) kN
                obtain ⟨rfl, rfl⟩ := e174
                refine r_aload2 dJ1_fixAfterInsertion_177 ?_
                refine r_iconst (v := nI 1) dJ1_fixAfterInsertion_178 (by decide) ?_
                refine r_callS (M' := mJ1_setColor) _ dJ1_fixAfterInsertion_179 q2050 q2051 rfl (lw_all_tbl q2052) q128 (by exact pl_J1_setColor)  ((k_setColor1 (fa _ hu2) (by rw [g_un (Ne.symm pu)]; exact eu))) (by omega) (Nat.le_of_ble_eq_true rfl) (by omega) (by omega) rfl (Nat.le_of_ble_eq_true rfl) rfl (kV fun h179 n179 e179 => ?_) kN
                obtain ⟨rfl, rfl⟩ := e179
                refine r_aload1 dJ1_fixAfterInsertion_182 ?_
                refine r_callS (M' := mJ1_parentOf) _ dJ1_fixAfterInsertion_183 q2038 q2039 rfl (lw_all_tbl q2040) q128 (by exact pl_J1_parentOf)  ((k_parentOf (by rw [g_un xu, g_un xp]; exact ex) (Or.inr ⟨_, rfl⟩))) (by omega) (Nat.le_of_ble_eq_true rfl) (by omega) (by omega) rfl (Nat.le_of_ble_eq_true rfl) rfl (kA fun r183 h183 n183 t183 e183 => ?_) kN
                obtain ⟨q9, q8, q7⟩ := e183; have q9 := q9.symm; have q8 := q8.symm; have q7 := q7.symm; subst q9; subst q8; subst q7
                refine r_callS (M' := mJ1_parentOf) _ dJ1_fixAfterInsertion_186 q2038 q2039 rfl (lw_all_tbl q2040) q128 (by exact pl_J1_parentOf)  ((k_parentOf (by rw [g_un pu, g_us]) (Or.inr ⟨_, rfl⟩))) (by omega) (Nat.le_of_ble_eq_true rfl) (by omega) (by omega) rfl (Nat.le_of_ble_eq_true rfl) rfl (kA fun r186 h186 n186 t186 e186 => ?_) kN
                obtain ⟨q9, q8, q7⟩ := e186; have q9 := q9.symm; have q8 := q8.symm; have q7 := q7.symm; subst q9; subst q8; subst q7
                refine r_iconst (v := nI 0) dJ1_fixAfterInsertion_189 (by decide) ?_
                refine r_callS (M' := mJ1_setColor) _ dJ1_fixAfterInsertion_190 q2050 q2051 rfl (lw_all_tbl q2052) q128 (by exact pl_J1_setColor)  ((k_setColor0 (fa _ hg) (by rw [g_un (Ne.symm ug), g_un (Ne.symm pg)]; exact eg'))) (by omega) (Nat.le_of_ble_eq_true rfl) (by omega) (by omega) rfl (Nat.le_of_ble_eq_true rfl) rfl (kV fun h190 n190 e190 => ?_) kN
                obtain ⟨rfl, rfl⟩ := e190
                refine r_aload1 dJ1_fixAfterInsertion_193 ?_
                refine r_callS (M' := mJ1_parentOf) _ dJ1_fixAfterInsertion_194 q2038 q2039 rfl (lw_all_tbl q2040) q128 (by exact pl_J1_parentOf)  ((k_parentOf (by rw [g_un xg, g_un xu, g_un xp]; exact ex) (Or.inr ⟨_, rfl⟩))) (by omega) (Nat.le_of_ble_eq_true rfl) (by omega) (by omega) rfl (Nat.le_of_ble_eq_true rfl) rfl (kA fun r194 h194 n194 t194 e194 => ?_) kN
                obtain ⟨q9, q8, q7⟩ := e194; have q9 := q9.symm; have q8 := q8.symm; have q7 := q7.symm; subst q9; subst q8; subst q7
                refine r_callS (M' := mJ1_parentOf) _ dJ1_fixAfterInsertion_197 q2038 q2039 rfl (lw_all_tbl q2040) q128 (by exact pl_J1_parentOf)  ((k_parentOf (by rw [g_un pg, g_un pu, g_us]) (Or.inr ⟨_, rfl⟩))) (by omega) (Nat.le_of_ble_eq_true rfl) (by omega) (by omega) rfl (Nat.le_of_ble_eq_true rfl) rfl (kA fun r197 h197 n197 t197 e197 => ?_) kN
                obtain ⟨q9, q8, q7⟩ := e197; have q9 := q9.symm; have q8 := q8.symm; have q7 := q7.symm; subst q9; subst q8; subst q7
                refine r_astore1 dJ1_fixAfterInsertion_200 ?_
                refine r_goto (tgt := 255) dJ1_fixAfterInsertion_201 (by decide) ?_
                refine r_goto (tgt := 5) dJ1_fixAfterInsertion_255 (by decide) ?_
                exact up u ku vu ul ur false rfl eu hu _ rfl _
theorem k_fix {mp : Nat} {N A B : List c_N} {sz mc nk t q kx vx : Value} {x j : Nat} {c0 : Bool} (bm : k_b K ≤ mp) (fa : ∀ z ∈ N, k_b K ≤ z.1) (nd : (N.map Prod.fst).Nodup) (nmp : ∀ z ∈ N, z.1 ≠ mp) (hm : h mp = some (trM t sz mc nk)) (c : ctx h j A B (.ref x) q t) (ex : h x = some (nC kx vx .null .null q c0)) (rb : rbk h t x) (eN : A ++ ((x, kx, vx) :: B) = N) : g_Met K mJ1_fixAfterInsertion 1 0 0 [.ref mp, .ref x] h n (gV fun h' n' => (∃ t', h' mp = some (trM t' sz mc nk) ∧ sg h' N t' .null ∧ rbB h' t') ∧ fr h h' mp N ∧ n' = n) gN := by
  have hx : (x, kx, vx) ∈ N := by rw [← eN]; simp
  have nx := nd_ne (A := A) (B := B) (a := x) (kk := kx) (v := vx) (by rw [eN]; exact nd)
  have bx := fa _ hx
  have xm := nmp _ hx
  refine g_Met.of (M := mJ1_fixAfterInsertion) (L := [some (.ref mp), some (.ref x), none]) (by decide +kernel) (Nat.le_of_ble_eq_true rfl) rfl ?_
  refine r_aload1 dJ1_fixAfterInsertion_0 ?_
  refine r_iconst (v := nI 0) dJ1_fixAfterInsertion_1 (by decide) ?_
  refine p_J1_290_J21 dJ1_fixAfterInsertion_2 (by omega) (by first | assumption | exact g_us | (rw [g_un (by omega)]; assumption) | (rw [g_un (by omega)]; exact g_us) | (rw [g_un (by omega), g_un (by omega)]; assumption) | (rw [g_un (by omega), g_un (by omega)]; exact g_us) | (rw [g_un (by omega), g_un (by omega), g_un (by omega)]; assumption) | ((repeat (rw [g_un (by omega)])); first | exact g_us | assumption)) ?_
  exact k_fixL (h := h) bm fa nd nmp j j (Nat.le_refl _) none _ t A B [] [] x kx vx .null .null q (by rw [g_un (Ne.symm xm)]; exact hm) (fr.rf.up ⟨_, hx, rfl⟩) (c.up nx) g_us sg.nil sg.nil (fun b kk v l r q cc e1 e2 e3 => rb b kk v l r q cc e1 e2 (by rw [g_un e2] at e3; exact e3)) (by simpa using eN)
end
