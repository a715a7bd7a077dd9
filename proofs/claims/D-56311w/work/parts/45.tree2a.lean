/-! TreeMap: the colours after an insertion (printed by gen_tree2.py) -/
set_option maxRecDepth 100000
section
variable {K : g_K} {n : Nat} {h : g_P}
theorem k_fix0 {mp : Nat} {N : List c_N} {sz mc nk : Value} (bm : k_b K ≤ mp) (fa : ∀ z ∈ N, k_b K ≤ z.1) (nd : (N.map Prod.fst).Nodup) (nmp : ∀ z ∈ N, z.1 ≠ mp) (b : Nat) (x1 o2 : Option Value) (h1 : g_P) (hm : h1 mp = some (trM (.ref b) sz mc nk)) (s : sg h1 N (.ref b) .null) (f1 : fr h h1 mp N) : g_G K mJ1_fixAfterInsertion 1 0 0 (gV fun h' n' => (∃ t', h' mp = some (trM t' sz mc nk) ∧ sg h' N t' .null ∧ rbB h' t') ∧ fr h h' mp N ∧ n' = n) gN 258 [some (.ref mp), x1, o2] [] h1 n := by
  obtain ⟨kk, v, l, r, c, A, B, eN, eb, -⟩ := s.mem
  have hb : (b, kk, v) ∈ N := by rw [eN]; simp
  have b1 := fa _ hb
  have b2 := nmp _ hb
  refine r_aload0 dJ1_fixAfterInsertion_258 ?_
  refine f_J1_101_J1 dJ1_fixAfterInsertion_259 (by first | assumption | exact g_us | (rw [g_un (by omega)]; assumption) | (rw [g_un (by omega)]; exact g_us) | (rw [g_un (by omega), g_un (by omega)]; assumption) | (rw [g_un (by omega), g_un (by omega)]; exact g_us) | (rw [g_un (by omega), g_un (by omega), g_un (by omega)]; assumption) | ((repeat (rw [g_un (by omega)])); first | exact g_us | assumption)) ?_
  refine r_iconst (v := nI 1) dJ1_fixAfterInsertion_262 (by decide) ?_
  refine p_J1_290_J21 dJ1_fixAfterInsertion_263 (by omega) (by first | assumption | exact g_us | (rw [g_un (by omega)]; assumption) | (rw [g_un (by omega)]; exact g_us) | (rw [g_un (by omega), g_un (by omega)]; assumption) | (rw [g_un (by omega), g_un (by omega)]; exact g_us) | (rw [g_un (by omega), g_un (by omega), g_un (by omega)]; assumption) | ((repeat (rw [g_un (by omega)])); first | exact g_us | assumption)) ?_
  exact r_return dJ1_fixAfterInsertion_266 rfl (⟨⟨.ref b, by rw [g_un (Ne.symm b2)]; exact hm, s.blk nd eb, fun b' kk' v' l' r' q' c' e1 e2 => by cases e1; rw [g_us] at e2; exact col_t e2⟩, f1.up ⟨_, hb, rfl⟩, rfl⟩)

theorem k_fix1L {mp : Nat} {N : List c_N} {sz mc nk : Value} (bm : k_b K ≤ mp) (fa : ∀ z ∈ N, k_b K ≤ z.1) (nd : (N.map Prod.fst).Nodup) (nmp : ∀ z ∈ N, z.1 ≠ mp) (o2 : Option Value) (h1 : g_P) {t : Value} (hm : h1 mp = some (trM t sz mc nk)) (f1 : fr h h1 mp N)
    {k : Nat} {A B O Wl Xn Xf : List c_N} {g p x : Nat} {kg vg qg o kp vp w kx vx xn xf : Value} {cg cp : Bool} (st : oS false h1 k A B t g kg vg qg cg o O p kp vp cp w Wl x kx vx xn xf Xn Xf) (eN : A ++ (ls2 false (ls2 false (ls2 false Xn (x, kx, vx) Xf) (p, kp, vp) Wl) (g, kg, vg) O ++ B) = N) : g_G K mJ1_fixAfterInsertion 1 0 0 (gV fun h' n' => (∃ t', h' mp = some (trM t' sz mc nk) ∧ sg h' N t' .null ∧ rbB h' t') ∧ fr h h' mp N ∧ n' = n) gN 118 [some (.ref mp), some (.ref x), o2] [] h1 n := by
  have nd0 := nd
  have nmp0 := nmp
  rw [← eN] at nd0 nmp0
  obtain ⟨c3, sw3, ex3, ep3, eg3, pg, xp, xg, nz⟩ := st.col nd0 rfl
  have fin := fun h' r => oS.fin (h' := h') (mp := mp) (sz := sz) (mc := mc) (nk := nk) st nd0 nmp0 r
  obtain ⟨-, eg, so, ep, -, ex, -, -⟩ := st
  have eg : h1 g = some (nC kg vg (.ref p) o qg cg) := eg
  have ep : h1 p = some (nC kp vp (.ref x) w (.ref g) cp) := ep
  have ex : h1 x = some (nC kx vx xn xf (.ref p) false) := ex
  have hp : (p, kp, vp) ∈ N := by rw [← eN]; simp [mem_ls2]
  have hg : (g, kg, vg) ∈ N := by rw [← eN]; simp [mem_ls2]
  have hW : ∀ z ∈ Wl, z ∈ N := fun z hz => by rw [← eN]; simp [mem_ls2, hz]
  have hA : ∀ z ∈ A ++ B, z ∈ N := fun z hz => by rw [← eN]; rcases List.mem_append.mp hz with q | q <;> simp [q]
  have bp := fa _ hp
  have bg := fa _ hg
  have mpp := nmp _ hp
  have mpg := nmp _ hg
  obtain ⟨-, -, nab⟩ := nd_mid nd0
  obtain ⟨n1, -, n3, -, -⟩ := nd_ls2 (nd_mid nd0).1
  obtain ⟨-, -, -, m4, -⟩ := nd_ls2 n1
  refine r_aload1 dJ1_fixAfterInsertion_118 ?_
  refine r_callS (M' := mJ1_parentOf) _ dJ1_fixAfterInsertion_119 q2038 q2039 rfl (lw_all_tbl q2040) q128 (by exact pl_J1_parentOf)  ((k_parentOf ex (Or.inr ⟨_, rfl⟩))) (by omega) (Nat.le_of_ble_eq_true rfl) (by omega) (by omega) rfl (Nat.le_of_ble_eq_true rfl) rfl (kA fun r119 h119 n119 t119 e119 => ?_) kN
  obtain ⟨q9, q8, q7⟩ := e119; have q9 := q9.symm; have q8 := q8.symm; have q7 := q7.symm; subst q9; subst q8; subst q7
  refine r_iconst (v := nI 1) dJ1_fixAfterInsertion_122 (by decide) ?_
  refine r_callS (M' := mJ1_setColor) _ dJ1_fixAfterInsertion_123 q2050 q2051 rfl (lw_all_tbl q2052) q128 (by exact pl_J1_setColor)  ((k_setColor1 bp ep)) (by omega) (Nat.le_of_ble_eq_true rfl) (by omega) (by omega) rfl (Nat.le_of_ble_eq_true rfl) rfl (kV fun h123 n123 e123 => ?_) kN
  obtain ⟨rfl, rfl⟩ := e123
  refine r_aload1 dJ1_fixAfterInsertion_126 ?_
  refine r_callS (M' := mJ1_parentOf) _ dJ1_fixAfterInsertion_127 q2038 q2039 rfl (lw_all_tbl q2040) q128 (by exact pl_J1_parentOf)  ((k_parentOf (by rw [g_un xp]; exact ex) (Or.inr ⟨_, rfl⟩))) (by omega) (Nat.le_of_ble_eq_true rfl) (by omega) (by omega) rfl (Nat.le_of_ble_eq_true rfl) rfl (kA fun r127 h127 n127 t127 e127 => ?_) kN
  obtain ⟨q9, q8, q7⟩ := e127; have q9 := q9.symm; have q8 := q8.symm; have q7 := q7.symm; subst q9; subst q8; subst q7
  refine r_callS (M' := mJ1_parentOf) _ dJ1_fixAfterInsertion_130 q2038 q2039 rfl (lw_all_tbl q2040) q128 (by exact pl_J1_parentOf)  ((k_parentOf g_us (Or.inr ⟨_, rfl⟩))) (by omega) (Nat.le_of_ble_eq_true rfl) (by omega) (by omega) rfl (Nat.le_of_ble_eq_true rfl) rfl (kA fun r130 h130 n130 t130 e130 => ?_) kN
  obtain ⟨q9, q8, q7⟩ := e130; have q9 := q9.symm; have q8 := q8.symm; have q7 := q7.symm; subst q9; subst q8; subst q7
  refine r_iconst (v := nI 0) dJ1_fixAfterInsertion_133 (by decide) ?_
  refine r_callS (M' := mJ1_setColor) _ dJ1_fixAfterInsertion_134 q2050 q2051 rfl (lw_all_tbl q2052) q128 (by exact pl_J1_setColor)  ((k_setColor0 bg (by rw [g_un (Ne.symm pg)]; exact eg))) (by omega) (Nat.le_of_ble_eq_true rfl) (by omega) (by omega) rfl (Nat.le_of_ble_eq_true rfl) rfl (kV fun h134 n134 e134 => ?_) kN
  obtain ⟨rfl, rfl⟩ := e134
  generalize hh3 : g_up (g_up h1 p (nC kp vp (.ref x) w (.ref g) true)) g (nC kg vg (.ref p) o qg false) = h3
  have hh3' : g_up (g_up h1 p (trS false kp vp (.ref x) w (.ref g) true)) g (trS false kg vg (.ref p) o qg false) = h3 := hh3
  rw [hh3'] at c3 sw3 ex3 ep3 eg3
  have fin := fun h' r => fin h' (by rw [hh3']; exact r)
  have hm3 : h3 mp = some (trM t sz mc nk) := by rw [← hh3, g_un (Ne.symm mpg), g_un (Ne.symm mpp)]; exact hm
  have f3 : fr h h3 mp N := by rw [← hh3]; exact (f1.up ⟨_, hp, rfl⟩).up ⟨_, hg, rfl⟩
  have ex3 : h3 x = some (nC kx vx xn xf (.ref p) false) := ex3
  have ep3' : h3 p = some (nC kp vp (.ref x) w (.ref g) true) := ep3
  have fb : w = .null ∨ ∃ (b : Nat) (kb vb lb rb : Value) (cb : Bool), w = .ref b ∧ h3 b = some (nC kb vb lb rb (.ref p) cb) ∧ b ≠ g ∧ b ≠ p ∧ k_b K ≤ b ∧ qg ≠ .ref b := by
    rcases fb_of sw3 with e | ⟨b, kb, vb, lb, rb, cb, e, eb, hb⟩
    · exact Or.inl e
    · refine Or.inr ⟨b, kb, vb, lb, rb, cb, e, eb, n3 _ (mem_ls2.mpr (Or.inr (Or.inr hb))), m4 _ hb, fa _ (hW _ hb), fun e9 => ?_⟩
      rcases fq_of c3 (fun z hz => (nz z hz).1) with ⟨-, e8⟩ | ⟨e', s', ke, ve, o', qe, ce, e8, -, hz, -⟩
      · rw [e8] at e9; cases e9
      · rw [e8] at e9; cases e9; exact nab _ hz _ (mem_ls2.mpr (Or.inr (Or.inl (mem_ls2.mpr (Or.inr (Or.inr hb)))))) rfl
  have fq : qg = .null ∨ ∃ (e : Nat) (s : Bool) (ke ve o qe : Value) (ce : Bool), qg = .ref e ∧ h3 e = some (trS s ke ve (.ref g) o qe ce) ∧ e ≠ g ∧ e ≠ p ∧ k_b K ≤ e ∧ (o = .null ∨ ∃ z, o = .ref z ∧ z ≠ g) := by
    rcases fq_of c3 (fun z hz => (nz z hz).1) with ⟨-, e8⟩ | ⟨e', s', ke, ve, o', qe, ce, e8, e7, hz, e6⟩
    · exact Or.inl e8
    · exact Or.inr ⟨e', s', ke, ve, o', qe, ce, e8, e7, (nz _ hz).1, (nz _ hz).2, fa _ (hA _ hz), e6⟩
  have fb2 : w = .null ∨ ∃ z ∈ N, w = .ref z.1 := by
    rcases fb_of sw3 with e | ⟨b, kb, vb, lb, rb, cb, e, eb, hb⟩
    · exact Or.inl e
    · exact Or.inr ⟨_, hW _ hb, e⟩
  have fq2 : qg = .null ∨ ∃ z ∈ N, qg = .ref z.1 := by
    rcases fq_of c3 (fun z hz => (nz z hz).1) with ⟨-, e8⟩ | ⟨e', s', ke, ve, o', qe, ce, e8, e7, hz, e6⟩
    · exact Or.inl e8
    · exact Or.inr ⟨_, hA _ hz, e8⟩
  refine r_aload0 dJ1_fixAfterInsertion_137 ?_
  refine r_aload1 dJ1_fixAfterInsertion_138 ?_
  refine r_callS (M' := mJ1_parentOf) _ dJ1_fixAfterInsertion_139 q2038 q2039 rfl (lw_all_tbl q2040) q128 (by exact pl_J1_parentOf)  ((k_parentOf ex3 (Or.inr ⟨_, rfl⟩))) (by omega) (Nat.le_of_ble_eq_true rfl) (by omega) (by omega) rfl (Nat.le_of_ble_eq_true rfl) rfl (kA fun r139 h139 n139 t139 e139 => ?_) kN
  obtain ⟨q9, q8, q7⟩ := e139; have q9 := q9.symm; have q8 := q8.symm; have q7 := q7.symm; subst q9; subst q8; subst q7
  refine r_callS (M' := mJ1_parentOf) _ dJ1_fixAfterInsertion_142 q2038 q2039 rfl (lw_all_tbl q2040) q128 (by exact pl_J1_parentOf)  ((k_parentOf ep3' (Or.inr ⟨_, rfl⟩))) (by omega) (Nat.le_of_ble_eq_true rfl) (by omega) (by omega) rfl (Nat.le_of_ble_eq_true rfl) rfl (kA fun r142 h142 n142 t142 e142 => ?_) kN
  obtain ⟨q9, q8, q7⟩ := e142; have q9 := q9.symm; have q8 := q8.symm; have q7 := q7.symm; subst q9; subst q8; subst q7
  refine r_callV (M' := mJ1_rotateRight) _ dJ1_fixAfterInsertion_145 q2057 q2059 qs28 rfl (lw_all_tbl q2060) q128 (by exact pl_J1_rotateRight) gc_J1 (by first | assumption | exact g_us | (rw [g_un (by omega)]; assumption) | (rw [g_un (by omega)]; exact g_us) | (rw [g_un (by omega), g_un (by omega)]; assumption) | (rw [g_un (by omega), g_un (by omega)]; exact g_us) | (rw [g_un (by omega), g_un (by omega), g_un (by omega)]; assumption) | ((repeat (rw [g_un (by omega)])); first | exact g_us | assumption)) ((k_rotR (a := g) (y := p) bm bg bp hm3 eg3 ep3 (Ne.symm pg) fb fq)) (by omega) (Nat.le_of_ble_eq_true rfl) (by omega) (by omega) rfl (Nat.le_of_ble_eq_true rfl) rfl (kV fun h145 n145 e145 => ?_) kN
  obtain ⟨hr, rfl⟩ := e145
  obtain ⟨t', ct, sP, ct1, ct2, ex4, ep4⟩ := fin _ hr
  have hm4 := hr.mp ⟨_, hg, rfl⟩ ⟨_, hp, rfl⟩ fb2 fq2 nmp hm3 ct1 ct2
  have f4 := f3.tr (hr.fr ⟨_, hg, rfl⟩ ⟨_, hp, rfl⟩ fb2 fq2)
  have sN := ct.plug sP
  rw [eN] at sN
  have ht : ∃ b, t' = .ref b := by
    rcases ct.root with ⟨-, -, -, -, e⟩ | ⟨-, z, -, e⟩
    · exact ⟨_, e⟩
    · exact ⟨_, e⟩
  obtain ⟨b, rfl⟩ := ht
  have ex4 : h145 x = some (nC kx vx xn xf (.ref p) false) := ex4
  have ep4 : h145 p = some (g_ob 24 [kp, vp, .ref x, .ref g, qg, .int (nI 1)]) := ep4
  refine r_goto (tgt := 5) dJ1_fixAfterInsertion_148 (by decide) ?_
  skip
  refine r_aload1 dJ1_fixAfterInsertion_5 ?_
  refine r_ifnull dJ1_fixAfterInsertion_6 ?_
  refine r_aload1 dJ1_fixAfterInsertion_9 ?_
  refine r_aload0 dJ1_fixAfterInsertion_10 ?_
  refine f_J1_101_J1 dJ1_fixAfterInsertion_11 (by first | assumption | exact g_us | (rw [g_un (by omega)]; assumption) | (rw [g_un (by omega)]; exact g_us) | (rw [g_un (by omega), g_un (by omega)]; assumption) | (rw [g_un (by omega), g_un (by omega)]; exact g_us) | (rw [g_un (by omega), g_un (by omega), g_un (by omega)]; assumption) | ((repeat (rw [g_un (by omega)])); first | exact g_us | assumption)) ?_
  refine r_acmp_eq (tgt := 258) dJ1_fixAfterInsertion_14 (by decide) (fun c14 => ?_) (fun c14 => ?_)
  · exact k_fix0 bm fa nd nmp b _ o2 _ hm4 sN f4
  · refine r_aload1 dJ1_fixAfterInsertion_17 ?_
    refine f_J1_124_J21 dJ1_fixAfterInsertion_18 (by first | assumption | exact g_us | (rw [g_un (by omega)]; assumption) | (rw [g_un (by omega)]; exact g_us) | (rw [g_un (by omega), g_un (by omega)]; assumption) | (rw [g_un (by omega), g_un (by omega)]; exact g_us) | (rw [g_un (by omega), g_un (by omega), g_un (by omega)]; assumption) | ((repeat (rw [g_un (by omega)])); first | exact g_us | assumption)) ?_
    refine f_J1_290_J21 dJ1_fixAfterInsertion_21 (by first | assumption | exact g_us | (rw [g_un (by omega)]; assumption) | (rw [g_un (by omega)]; exact g_us) | (rw [g_un (by omega), g_un (by omega)]; assumption) | (rw [g_un (by omega), g_un (by omega)]; exact g_us) | (rw [g_un (by omega), g_un (by omega), g_un (by omega)]; assumption) | ((repeat (rw [g_un (by omega)])); first | exact g_us | assumption)) ?_
    refine r_if_neN (tgt := 258) dJ1_fixAfterInsertion_24 (by decide) (by omega) (fun c24 => ?_) (fun c24 => absurd c24 (by omega))
    exact k_fix0 bm fa nd nmp b _ o2 _ hm4 sN f4

end
