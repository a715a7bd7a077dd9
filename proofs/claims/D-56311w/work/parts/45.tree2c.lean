/-! TreeMap: the colours after an insertion (printed by gen_tree2.py) -/
set_option maxRecDepth 100000
section
variable {K : g_K} {n : Nat} {h : g_P}
theorem k_fix2L {mp : Nat} {N : List c_N} {sz mc nk : Value} (bm : k_b K ≤ mp) (fa : ∀ z ∈ N, k_b K ≤ z.1) (nd : (N.map Prod.fst).Nodup) (nmp : ∀ z ∈ N, z.1 ≠ mp) (o2 : Option Value) (h1 : g_P) {t : Value} (hm : h1 mp = some (trM t sz mc nk)) (f1 : fr h h1 mp N)
    {k : Nat} {A B O Wl X1 X2 : List c_N} {g p x : Nat} {kg vg qg o kp vp w kx vx xl xr : Value} {cg s1 : Bool} (c : ctx h1 k A B (.ref g) qg t) (eg : h1 g = some (trS false kg vg (.ref p) o qg cg)) (so : sg h1 O o (.ref g)) (ep : h1 p = some (trS s1 kp vp (.ref x) w (.ref g) false)) (sw : sg h1 Wl w (.ref p)) (ex : h1 x = some (nC kx vx xl xr (.ref p) false)) (sx1 : sg h1 X1 xl (.ref x)) (sx2 : sg h1 X2 xr (.ref x))
    (eN : A ++ (ls2 false (ls2 s1 (X1 ++ (x, kx, vx) :: X2) (p, kp, vp) Wl) (g, kg, vg) O ++ B) = N) : g_G K mJ1_fixAfterInsertion 1 0 0 (gV fun h' n' => (∃ t', h' mp = some (trM t' sz mc nk) ∧ sg h' N t' .null ∧ rbB h' t') ∧ fr h h' mp N ∧ n' = n) gN 97 [some (.ref mp), some (.ref x), o2] [] h1 n := by
  have hx : (x, kx, vx) ∈ N := by rw [← eN]; simp [mem_ls2]
  have hp : (p, kp, vp) ∈ N := by rw [← eN]; simp [mem_ls2]
  have hg : (g, kg, vg) ∈ N := by rw [← eN]; simp [mem_ls2]
  have nd2 := nd
  rw [← eN] at nd2
  obtain ⟨n1, -, n3, n4, n5⟩ := nd_ls2 (nd_mid nd2).1
  obtain ⟨m1, m2, m3, m4, m5⟩ := nd_ls2 n1
  have xp : x ≠ p := m3 (x, kx, vx) (by simp)
  have pg : p ≠ g := n3 (p, kp, vp) (mem_ls2.mpr (Or.inl rfl))
  have xg : x ≠ g := n3 (x, kx, vx) (mem_ls2.mpr (Or.inr (Or.inl (by simp))))
  by_cases es : s1 = false
  · subst es
    have st : oS false h1 k A B t g kg vg qg cg o O p kp vp false w Wl x kx vx xl xr X1 X2 := ⟨c, eg, so, ep, sw, ex, sx1, sx2⟩
    have ep' : h1 p = some (nC kp vp (.ref x) w (.ref g) false) := ep
    rcases sw.vr with rfl | ⟨b, rfl⟩
    · skip
      refine r_aload1 dJ1_fixAfterInsertion_97 ?_
      refine r_aload1 dJ1_fixAfterInsertion_98 ?_
      refine r_callS (M' := mJ1_parentOf) _ dJ1_fixAfterInsertion_99 q2038 q2039 rfl (lw_all_tbl q2040) q128 (by exact pl_J1_parentOf)  ((k_parentOf ex (Or.inr ⟨_, rfl⟩))) (by omega) (Nat.le_of_ble_eq_true rfl) (by omega) (by omega) rfl (Nat.le_of_ble_eq_true rfl) rfl (kA fun r99 h99 n99 t99 e99 => ?_) kN
      obtain ⟨q9, q8, q7⟩ := e99; have q9 := q9.symm; have q8 := q8.symm; have q7 := q7.symm; subst q9; subst q8; subst q7
      refine r_callS (M' := mJ1_rightOf) _ dJ1_fixAfterInsertion_102 q2044 q2045 rfl (lw_all_tbl q2046) q128 (by exact pl_J1_rightOf)  ((k_rightOf ep' (Or.inl rfl))) (by omega) (Nat.le_of_ble_eq_true rfl) (by omega) (by omega) rfl (Nat.le_of_ble_eq_true rfl) rfl (kA fun r102 h102 n102 t102 e102 => ?_) kN
      obtain ⟨q9, q8, q7⟩ := e102; have q9 := q9.symm; have q8 := q8.symm; have q7 := q7.symm; subst q9; subst q8; subst q7
      refine r_acmp_neRZ (tgt := 118) dJ1_fixAfterInsertion_105 (by decide) ?_
      exact k_fix1L bm fa nd nmp o2 h1 hm f1 st eN
    · have xb : ¬ x = b := fun e => by
        obtain ⟨kb, vb, lb, rb, cb, U, V, eW, -⟩ := sw.mem
        exact m5 (x, kx, vx) (by simp) (b, kb, vb) (by rw [eW]; simp) e
      refine r_aload1 dJ1_fixAfterInsertion_97 ?_
      refine r_aload1 dJ1_fixAfterInsertion_98 ?_
      refine r_callS (M' := mJ1_parentOf) _ dJ1_fixAfterInsertion_99 q2038 q2039 rfl (lw_all_tbl q2040) q128 (by exact pl_J1_parentOf)  ((k_parentOf ex (Or.inr ⟨_, rfl⟩))) (by omega) (Nat.le_of_ble_eq_true rfl) (by omega) (by omega) rfl (Nat.le_of_ble_eq_true rfl) rfl (kA fun r99 h99 n99 t99 e99 => ?_) kN
      obtain ⟨q9, q8, q7⟩ := e99; have q9 := q9.symm; have q8 := q8.symm; have q7 := q7.symm; subst q9; subst q8; subst q7
      refine r_callS (M' := mJ1_rightOf) _ dJ1_fixAfterInsertion_102 q2044 q2045 rfl (lw_all_tbl q2046) q128 (by exact pl_J1_rightOf)  ((k_rightOf ep' (Or.inr ⟨_, rfl⟩))) (by omega) (Nat.le_of_ble_eq_true rfl) (by omega) (by omega) rfl (Nat.le_of_ble_eq_true rfl) rfl (kA fun r102 h102 n102 t102 e102 => ?_) kN
      obtain ⟨q9, q8, q7⟩ := e102; have q9 := q9.symm; have q8 := q8.symm; have q7 := q7.symm; subst q9; subst q8; subst q7
      refine r_acmp_ne (tgt := 118) dJ1_fixAfterInsertion_105 (by decide) (fun c105 => ?_) (fun c105 => absurd c105 xb)
      exact k_fix1L bm fa nd nmp o2 h1 hm f1 st eN
  · have es : s1 = true := by cases s1 <;> simp_all
    subst es
    have ep' : h1 p = some (nC kp vp w (.ref x) (.ref g) false) := ep
    have epr : h1 p = some (trS false kp vp w (.ref x) (.ref g) false) := ep
    have exr : h1 x = some (trS false kx vx xl xr (.ref p) false) := ex
    have oo : o = .null ∨ ∃ z, o = .ref z ∧ z ≠ p := by
      rcases so.vr with e | ⟨b, rfl⟩
      · exact Or.inl e
      · refine Or.inr ⟨b, rfl, fun e => ?_⟩
        obtain ⟨kb, vb, lb, rb, cb, U, V, eO, -⟩ := so.mem
        exact n5 (p, kp, vp) (mem_ls2.mpr (Or.inl rfl)) (b, kb, vb) (by rw [eO]; simp) e.symm
    have hX : ∀ z ∈ X1, z ∈ N := fun z hz => by rw [← eN]; simp [mem_ls2, hz]
    have mX : ∀ z ∈ X1, z ∈ X1 ++ (x, kx, vx) :: X2 := fun z hz => by simp [hz]
    have eN2 : A ++ (ls2 false (ls2 false Wl (p, kp, vp) (ls2 false X1 (x, kx, vx) X2)) (g, kg, vg) O ++ B) = N := by rw [← eN]; simp [ls2]
    have eN3 : A ++ (ls2 false (ls2 false (ls2 false Wl (p, kp, vp) X1) (x, kx, vx) X2) (g, kg, vg) O ++ B) = N := by rw [← eN]; simp [ls2]
    have nx := nd_ne (A := X1) (B := X2) (a := x) (kk := kx) (v := vx) m1
    have fb : xl = .null ∨ ∃ (b : Nat) (kb vb lb rb : Value) (cb : Bool), xl = .ref b ∧ h1 b = some (nC kb vb lb rb (.ref x) cb) ∧ b ≠ p ∧ b ≠ x ∧ k_b K ≤ b ∧ Value.ref g ≠ .ref b := by
      rcases fb_of sx1 with e | ⟨b, kb, vb, lb, rb, cb, e, eb, hb⟩
      · exact Or.inl e
      · exact Or.inr ⟨b, kb, vb, lb, rb, cb, e, eb, m3 _ (mX _ hb), nx (b, kb, vb) (by simp [hb]), fa _ (hX _ hb), fun e9 => by cases e9; exact n3 _ (mem_ls2.mpr (Or.inr (Or.inl (mX _ hb)))) rfl⟩
    have fb2 : xl = .null ∨ ∃ z ∈ N, xl = .ref z.1 := by
      rcases fb_of sx1 with e | ⟨b, kb, vb, lb, rb, cb, e, eb, hb⟩
      · exact Or.inl e
      · exact Or.inr ⟨_, hX _ hb, e⟩
    refine r_aload1 dJ1_fixAfterInsertion_97 ?_
    refine r_aload1 dJ1_fixAfterInsertion_98 ?_
    refine r_callS (M' := mJ1_parentOf) _ dJ1_fixAfterInsertion_99 q2038 q2039 rfl (lw_all_tbl q2040) q128 (by exact pl_J1_parentOf)  ((k_parentOf ex (Or.inr ⟨_, rfl⟩))) (by omega) (Nat.le_of_ble_eq_true rfl) (by omega) (by omega) rfl (Nat.le_of_ble_eq_true rfl) rfl (kA fun r99 h99 n99 t99 e99 => ?_) kN
    obtain ⟨q9, q8, q7⟩ := e99; have q9 := q9.symm; have q8 := q8.symm; have q7 := q7.symm; subst q9; subst q8; subst q7
    refine r_callS (M' := mJ1_rightOf) _ dJ1_fixAfterInsertion_102 q2044 q2045 rfl (lw_all_tbl q2046) q128 (by exact pl_J1_rightOf)  ((k_rightOf ep' (Or.inr ⟨_, rfl⟩))) (by omega) (Nat.le_of_ble_eq_true rfl) (by omega) (by omega) rfl (Nat.le_of_ble_eq_true rfl) rfl (kA fun r102 h102 n102 t102 e102 => ?_) kN
    obtain ⟨q9, q8, q7⟩ := e102; have q9 := q9.symm; have q8 := q8.symm; have q7 := q7.symm; subst q9; subst q8; subst q7
    refine r_acmp_ne (tgt := 118) dJ1_fixAfterInsertion_105 (by decide) (fun c105 => absurd c105 ((fun z => z rfl))) (fun c105 => ?_)
    refine r_aload1 dJ1_fixAfterInsertion_108 ?_
    refine r_callS (M' := mJ1_parentOf) _ dJ1_fixAfterInsertion_109 q2038 q2039 rfl (lw_all_tbl q2040) q128 (by exact pl_J1_parentOf)  ((k_parentOf ex (Or.inr ⟨_, rfl⟩))) (by omega) (Nat.le_of_ble_eq_true rfl) (by omega) (by omega) rfl (Nat.le_of_ble_eq_true rfl) rfl (kA fun r109 h109 n109 t109 e109 => ?_) kN
    obtain ⟨q9, q8, q7⟩ := e109; have q9 := q9.symm; have q8 := q8.symm; have q7 := q7.symm; subst q9; subst q8; subst q7
    refine r_astore1 dJ1_fixAfterInsertion_112 ?_
    refine r_aload0 dJ1_fixAfterInsertion_113 ?_
    refine r_aload1 dJ1_fixAfterInsertion_114 ?_
    refine r_callV (M' := mJ1_rotateLeft) _ dJ1_fixAfterInsertion_115 q2053 q2055 qs27 rfl (lw_all_tbl q2056) q128 (by exact pl_J1_rotateLeft) gc_J1 (by first | assumption | exact g_us | (rw [g_un (by omega)]; assumption) | (rw [g_un (by omega)]; exact g_us) | (rw [g_un (by omega), g_un (by omega)]; assumption) | (rw [g_un (by omega), g_un (by omega)]; exact g_us) | (rw [g_un (by omega), g_un (by omega), g_un (by omega)]; assumption) | ((repeat (rw [g_un (by omega)])); first | exact g_us | assumption)) ((k_rotL (a := p) (y := x) bm (fa _ hp) (fa _ hx) hm epr exr (Ne.symm xp) fb (Or.inr ⟨g, false, kg, vg, o, qg, cg, rfl, eg, Ne.symm pg, Ne.symm xg, fa _ hg, oo⟩))) (by omega) (Nat.le_of_ble_eq_true rfl) (by omega) (by omega) rfl (Nat.le_of_ble_eq_true rfl) rfl (kV fun h115 n115 e115 => ?_) kN
    obtain ⟨hr, rfl⟩ := e115
    have st := iS_oS c eg so sw sx1 sx2 (by rw [eN2]; exact nd) hr
    have hm2 := hr.mp (t := t) (t' := t) ⟨_, hp, rfl⟩ ⟨_, hx, rfl⟩ fb2 (Or.inr ⟨_, hg, rfl⟩) nmp hm (fun e => by cases e) (fun _ => rfl)
    have f2 := f1.tr (hr.fr ⟨_, hp, rfl⟩ ⟨_, hx, rfl⟩ fb2 (Or.inr ⟨_, hg, rfl⟩))
    exact k_fix1L bm fa nd nmp o2 _ hm2 f2 st eN3

theorem k_fix2R {mp : Nat} {N : List c_N} {sz mc nk : Value} (bm : k_b K ≤ mp) (fa : ∀ z ∈ N, k_b K ≤ z.1) (nd : (N.map Prod.fst).Nodup) (nmp : ∀ z ∈ N, z.1 ≠ mp) (o2 : Option Value) (h1 : g_P) {t : Value} (hm : h1 mp = some (trM t sz mc nk)) (f1 : fr h h1 mp N)
    {k : Nat} {A B O Wl X1 X2 : List c_N} {g p x : Nat} {kg vg qg o kp vp w kx vx xl xr : Value} {cg s1 : Bool} (c : ctx h1 k A B (.ref g) qg t) (eg : h1 g = some (trS true kg vg (.ref p) o qg cg)) (so : sg h1 O o (.ref g)) (ep : h1 p = some (trS s1 kp vp (.ref x) w (.ref g) false)) (sw : sg h1 Wl w (.ref p)) (ex : h1 x = some (nC kx vx xl xr (.ref p) false)) (sx1 : sg h1 X1 xl (.ref x)) (sx2 : sg h1 X2 xr (.ref x))
    (eN : A ++ (ls2 true (ls2 s1 (X1 ++ (x, kx, vx) :: X2) (p, kp, vp) Wl) (g, kg, vg) O ++ B) = N) : g_G K mJ1_fixAfterInsertion 1 0 0 (gV fun h' n' => (∃ t', h' mp = some (trM t' sz mc nk) ∧ sg h' N t' .null ∧ rbB h' t') ∧ fr h h' mp N ∧ n' = n) gN 204 [some (.ref mp), some (.ref x), o2] [] h1 n := by
  have hx : (x, kx, vx) ∈ N := by rw [← eN]; simp [mem_ls2]
  have hp : (p, kp, vp) ∈ N := by rw [← eN]; simp [mem_ls2]
  have hg : (g, kg, vg) ∈ N := by rw [← eN]; simp [mem_ls2]
  have nd2 := nd
  rw [← eN] at nd2
  obtain ⟨n1, -, n3, n4, n5⟩ := nd_ls2 (nd_mid nd2).1
  obtain ⟨m1, m2, m3, m4, m5⟩ := nd_ls2 n1
  have xp : x ≠ p := m3 (x, kx, vx) (by simp)
  have pg : p ≠ g := n3 (p, kp, vp) (mem_ls2.mpr (Or.inl rfl))
  have xg : x ≠ g := n3 (x, kx, vx) (mem_ls2.mpr (Or.inr (Or.inl (by simp))))
  by_cases es : s1 = true
  · subst es
    have st : oS true h1 k A B t g kg vg qg cg o O p kp vp false w Wl x kx vx xr xl X2 X1 := ⟨c, eg, so, ep, sw, ex, sx2, sx1⟩
    have ep' : h1 p = some (nC kp vp w (.ref x) (.ref g) false) := ep
    rcases sw.vr with rfl | ⟨b, rfl⟩
    · skip
      refine r_aload1 dJ1_fixAfterInsertion_204 ?_
      refine r_aload1 dJ1_fixAfterInsertion_205 ?_
      refine r_callS (M' := mJ1_parentOf) _ dJ1_fixAfterInsertion_206 q2038 q2039 rfl (lw_all_tbl q2040) q128 (by exact pl_J1_parentOf)  ((k_parentOf ex (Or.inr ⟨_, rfl⟩))) (by omega) (Nat.le_of_ble_eq_true rfl) (by omega) (by omega) rfl (Nat.le_of_ble_eq_true rfl) rfl (kA fun r206 h206 n206 t206 e206 => ?_) kN
      obtain ⟨q9, q8, q7⟩ := e206; have q9 := q9.symm; have q8 := q8.symm; have q7 := q7.symm; subst q9; subst q8; subst q7
      refine r_callS (M' := mJ1_leftOf) _ dJ1_fixAfterInsertion_209 q2041 q2042 rfl (lw_all_tbl q2043) q128 (by exact pl_J1_leftOf)  ((k_leftOf ep' (Or.inl rfl))) (by omega) (Nat.le_of_ble_eq_true rfl) (by omega) (by omega) rfl (Nat.le_of_ble_eq_true rfl) rfl (kA fun r209 h209 n209 t209 e209 => ?_) kN
      obtain ⟨q9, q8, q7⟩ := e209; have q9 := q9.symm; have q8 := q8.symm; have q7 := q7.symm; subst q9; subst q8; subst q7
      refine r_acmp_neRZ (tgt := 225) dJ1_fixAfterInsertion_212 (by decide) ?_
      exact k_fix1R bm fa nd nmp o2 h1 hm f1 st eN
    · have xb : ¬ x = b := fun e => by
        obtain ⟨kb, vb, lb, rb, cb, U, V, eW, -⟩ := sw.mem
        exact m5 (x, kx, vx) (by simp) (b, kb, vb) (by rw [eW]; simp) e
      refine r_aload1 dJ1_fixAfterInsertion_204 ?_
      refine r_aload1 dJ1_fixAfterInsertion_205 ?_
      refine r_callS (M' := mJ1_parentOf) _ dJ1_fixAfterInsertion_206 q2038 q2039 rfl (lw_all_tbl q2040) q128 (by exact pl_J1_parentOf)  ((k_parentOf ex (Or.inr ⟨_, rfl⟩))) (by omega) (Nat.le_of_ble_eq_true rfl) (by omega) (by omega) rfl (Nat.le_of_ble_eq_true rfl) rfl (kA fun r206 h206 n206 t206 e206 => ?_) kN
      obtain ⟨q9, q8, q7⟩ := e206; have q9 := q9.symm; have q8 := q8.symm; have q7 := q7.symm; subst q9; subst q8; subst q7
      refine r_callS (M' := mJ1_leftOf) _ dJ1_fixAfterInsertion_209 q2041 q2042 rfl (lw_all_tbl q2043) q128 (by exact pl_J1_leftOf)  ((k_leftOf ep' (Or.inr ⟨_, rfl⟩))) (by omega) (Nat.le_of_ble_eq_true rfl) (by omega) (by omega) rfl (Nat.le_of_ble_eq_true rfl) rfl (kA fun r209 h209 n209 t209 e209 => ?_) kN
      obtain ⟨q9, q8, q7⟩ := e209; have q9 := q9.symm; have q8 := q8.symm; have q7 := q7.symm; subst q9; subst q8; subst q7
      refine r_acmp_ne (tgt := 225) dJ1_fixAfterInsertion_212 (by decide) (fun c212 => ?_) (fun c212 => absurd c212 xb)
      exact k_fix1R bm fa nd nmp o2 h1 hm f1 st eN
  · have es : s1 = false := by cases s1 <;> simp_all
    subst es
    have ep' : h1 p = some (nC kp vp (.ref x) w (.ref g) false) := ep
    have epr : h1 p = some (trS true kp vp w (.ref x) (.ref g) false) := ep
    have exr : h1 x = some (trS true kx vx xr xl (.ref p) false) := ex
    have oo : o = .null ∨ ∃ z, o = .ref z ∧ z ≠ p := by
      rcases so.vr with e | ⟨b, rfl⟩
      · exact Or.inl e
      · refine Or.inr ⟨b, rfl, fun e => ?_⟩
        obtain ⟨kb, vb, lb, rb, cb, U, V, eO, -⟩ := so.mem
        exact n5 (p, kp, vp) (mem_ls2.mpr (Or.inl rfl)) (b, kb, vb) (by rw [eO]; simp) e.symm
    have hX : ∀ z ∈ X2, z ∈ N := fun z hz => by rw [← eN]; simp [mem_ls2, hz]
    have mX : ∀ z ∈ X2, z ∈ X1 ++ (x, kx, vx) :: X2 := fun z hz => by simp [hz]
    have eN2 : A ++ (ls2 true (ls2 true Wl (p, kp, vp) (ls2 true X2 (x, kx, vx) X1)) (g, kg, vg) O ++ B) = N := by rw [← eN]; simp [ls2]
    have eN3 : A ++ (ls2 true (ls2 true (ls2 true Wl (p, kp, vp) X2) (x, kx, vx) X1) (g, kg, vg) O ++ B) = N := by rw [← eN]; simp [ls2]
    have nx := nd_ne (A := X1) (B := X2) (a := x) (kk := kx) (v := vx) m1
    have fb : xr = .null ∨ ∃ (b : Nat) (kb vb lb rb : Value) (cb : Bool), xr = .ref b ∧ h1 b = some (nC kb vb lb rb (.ref x) cb) ∧ b ≠ p ∧ b ≠ x ∧ k_b K ≤ b ∧ Value.ref g ≠ .ref b := by
      rcases fb_of sx2 with e | ⟨b, kb, vb, lb, rb, cb, e, eb, hb⟩
      · exact Or.inl e
      · exact Or.inr ⟨b, kb, vb, lb, rb, cb, e, eb, m3 _ (mX _ hb), nx (b, kb, vb) (by simp [hb]), fa _ (hX _ hb), fun e9 => by cases e9; exact n3 _ (mem_ls2.mpr (Or.inr (Or.inl (mX _ hb)))) rfl⟩
    have fb2 : xr = .null ∨ ∃ z ∈ N, xr = .ref z.1 := by
      rcases fb_of sx2 with e | ⟨b, kb, vb, lb, rb, cb, e, eb, hb⟩
      · exact Or.inl e
      · exact Or.inr ⟨_, hX _ hb, e⟩
    refine r_aload1 dJ1_fixAfterInsertion_204 ?_
    refine r_aload1 dJ1_fixAfterInsertion_205 ?_
    refine r_callS (M' := mJ1_parentOf) _ dJ1_fixAfterInsertion_206 q2038 q2039 rfl (lw_all_tbl q2040) q128 (by exact pl_J1_parentOf)  ((k_parentOf ex (Or.inr ⟨_, rfl⟩))) (by omega) (Nat.le_of_ble_eq_true rfl) (by omega) (by omega) rfl (Nat.le_of_ble_eq_true rfl) rfl (kA fun r206 h206 n206 t206 e206 => ?_) kN
    obtain ⟨q9, q8, q7⟩ := e206; have q9 := q9.symm; have q8 := q8.symm; have q7 := q7.symm; subst q9; subst q8; subst q7
    refine r_callS (M' := mJ1_leftOf) _ dJ1_fixAfterInsertion_209 q2041 q2042 rfl (lw_all_tbl q2043) q128 (by exact pl_J1_leftOf)  ((k_leftOf ep' (Or.inr ⟨_, rfl⟩))) (by omega) (Nat.le_of_ble_eq_true rfl) (by omega) (by omega) rfl (Nat.le_of_ble_eq_true rfl) rfl (kA fun r209 h209 n209 t209 e209 => ?_) kN
    obtain ⟨q9, q8, q7⟩ := e209; have q9 := q9.symm; have q8 := q8.symm; have q7 := q7.symm; subst q9; subst q8; subst q7
    refine r_acmp_ne (tgt := 225) dJ1_fixAfterInsertion_212 (by decide) (fun c212 => absurd c212 ((fun z => z rfl))) (fun c212 => ?_)
    refine r_aload1 dJ1_fixAfterInsertion_215 ?_
    refine r_callS (M' := mJ1_parentOf) _ dJ1_fixAfterInsertion_216 q2038 q2039 rfl (lw_all_tbl q2040) q128 (by exact pl_J1_parentOf)  ((k_parentOf ex (Or.inr ⟨_, rfl⟩))) (by omega) (Nat.le_of_ble_eq_true rfl) (by omega) (by omega) rfl (Nat.le_of_ble_eq_true rfl) rfl (kA fun r216 h216 n216 t216 e216 => ?_) kN
    obtain ⟨q9, q8, q7⟩ := e216; have q9 := q9.symm; have q8 := q8.symm; have q7 := q7.symm; subst q9; subst q8; subst q7
    refine r_astore1 dJ1_fixAfterInsertion_219 ?_
    refine r_aload0 dJ1_fixAfterInsertion_220 ?_
    refine r_aload1 dJ1_fixAfterInsertion_221 ?_
    refine r_callV (M' := mJ1_rotateRight) _ dJ1_fixAfterInsertion_222 q2057 q2059 qs28 rfl (lw_all_tbl q2060) q128 (by exact pl_J1_rotateRight) gc_J1 (by first | assumption | exact g_us | (rw [g_un (by omega)]; assumption) | (rw [g_un (by omega)]; exact g_us) | (rw [g_un (by omega), g_un (by omega)]; assumption) | (rw [g_un (by omega), g_un (by omega)]; exact g_us) | (rw [g_un (by omega), g_un (by omega), g_un (by omega)]; assumption) | ((repeat (rw [g_un (by omega)])); first | exact g_us | assumption)) ((k_rotR (a := p) (y := x) bm (fa _ hp) (fa _ hx) hm epr exr (Ne.symm xp) fb (Or.inr ⟨g, true, kg, vg, o, qg, cg, rfl, eg, Ne.symm pg, Ne.symm xg, fa _ hg, oo⟩))) (by omega) (Nat.le_of_ble_eq_true rfl) (by omega) (by omega) rfl (Nat.le_of_ble_eq_true rfl) rfl (kV fun h222 n222 e222 => ?_) kN
    obtain ⟨hr, rfl⟩ := e222
    have st := iS_oS c eg so sw sx2 sx1 (by rw [eN2]; exact nd) hr
    have hm2 := hr.mp (t := t) (t' := t) ⟨_, hp, rfl⟩ ⟨_, hx, rfl⟩ fb2 (Or.inr ⟨_, hg, rfl⟩) nmp hm (fun e => by cases e) (fun _ => rfl)
    have f2 := f1.tr (hr.fr ⟨_, hp, rfl⟩ ⟨_, hx, rfl⟩ fb2 (Or.inr ⟨_, hg, rfl⟩))
    exact k_fix1R bm fa nd nmp o2 _ hm2 f2 st eN3

end
