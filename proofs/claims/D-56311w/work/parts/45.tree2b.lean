/-! TreeMap: the colours after an insertion (printed by gen_tree2.py) -/
set_option maxRecDepth 100000
section
variable {K : g_K} {n : Nat} {h : g_P}
theorem k_fix1R {mp : Nat} {N : List c_N} {sz mc nk : Value} (bm : k_b K ≤ mp) (fa : ∀ z ∈ N, k_b K ≤ z.1) (nd : (N.map Prod.fst).Nodup) (nmp : ∀ z ∈ N, z.1 ≠ mp) (o2 : Option Value) (h1 : g_P) {t : Value} (hm : h1 mp = some (trM t sz mc nk)) (f1 : fr h h1 mp N)
    {k : Nat} {A B O Wl Xn Xf : List c_N} {g p x : Nat} {kg vg qg o kp vp w kx vx xn xf : Value} {cg cp : Bool} (st : oS true h1 k A B t g kg vg qg cg o O p kp vp cp w Wl x kx vx xn xf Xn Xf) (eN : A ++ (ls2 true (ls2 true (ls2 true Xn (x, kx, vx) Xf) (p, kp, vp) Wl) (g, kg, vg) O ++ B) = N) : g_G K mJ1_fixAfterInsertion 1 0 0 (gV fun h' n' => (∃ t', h' mp = some (trM t' sz mc nk) ∧ sg h' N t' .null ∧ rbB h' t') ∧ fr h h' mp N ∧ n' = n) gN 225 [some (.ref mp), some (.ref x), o2] [] h1 n := by
  have nd0 := nd
  have nmp0 := nmp
  rw [← eN] at nd0 nmp0
  obtain ⟨c3, sw3, ex3, ep3, eg3, pg, xp, xg, nz⟩ := st.col nd0 rfl
  have fin := fun h' r => oS.fin (h' := h') (mp := mp) (sz := sz) (mc := mc) (nk := nk) st nd0 nmp0 r
  obtain ⟨-, eg, so, ep, -, ex, -, -⟩ := st
  have eg : h1 g = some (nC kg vg o (.ref p) qg cg) := eg
  have ep : h1 p = some (nC kp vp w (.ref x) (.ref g) cp) := ep
  have ex : h1 x = some (nC kx vx xf xn (.ref p) false) := ex
  have hp : (p, kp, vp) ∈ N := by rw [← eN]; simp [mem_ls2]
  have hg : (g, kg, vg) ∈ N := by rw [← eN]; simp [mem_ls2]
  have hW : ∀ z ∈ Wl, z ∈ N := fun z hz => by rw [← eN]; simp [mem_ls2, hz]
  have hA : ∀ z ∈ A ++ B, z ∈ N := fun z hz => by rw [← eN]; rcases List.mem_append.mp hz with q | q <;> simp [q]
  have bp := fa _ hp
  have bg := fa _ hg
  have mpp := nmp _ hp
  have mpg := nmp _ hg
  obtain ⟨-, -, nab⟩ := nd_mid nd0
  obtain ⟨n1, -, n3, -, -⟩ := nd_ls2 (nd_mid nd0).1
  obtain ⟨-, -, -, m4, -⟩ := nd_ls2 n1
  refine r_aload1 dJ1_fixAfterInsertion_225 ?_
  refine r_callS (M' := mJ1_parentOf) _ dJ1_fixAfterInsertion_226 q2038 q2039 rfl (lw_all_tbl q2040) q128 (by exact pl_J1_parentOf)  ((k_parentOf ex (Or.inr ⟨_, rfl⟩))) (by omega) (Nat.le_of_ble_eq_true rfl) (by omega) (by omega) rfl (Nat.le_of_ble_eq_true rfl) rfl (kA fun r226 h226 n226 t226 e226 => ?_) kN
  obtain ⟨q9, q8, q7⟩ := e226; have q9 := q9.symm; have q8 := q8.symm; have q7 := q7.symm; subst q9; subst q8; subst q7
  refine r_iconst (v := nI 1) dJ1_fixAfterInsertion_229 (by decide) ?_
  refine r_callS (M' := mJ1_setColor) _ dJ1_fixAfterInsertion_230 q2050 q2051 rfl (lw_all_tbl q2052) q128 (by exact pl_J1_setColor)  ((k_setColor1 bp ep)) (by omega) (Nat.le_of_ble_eq_true rfl) (by omega) (by omega) rfl (Nat.le_of_ble_eq_true rfl) rfl (kV fun h230 n230 e230 => ?_) kN
  obtain ⟨rfl, rfl⟩ := e230
  refine r_aload1 dJ1_fixAfterInsertion_233 ?_
  refine r_callS (M' := mJ1_parentOf) _ dJ1_fixAfterInsertion_234 q2038 q2039 rfl (lw_all_tbl q2040) q128 (by exact pl_J1_parentOf)  ((k_parentOf (by rw [g_un xp]; exact ex) (Or.inr ⟨_, rfl⟩))) (by omega) (Nat.le_of_ble_eq_true rfl) (by omega) (by omega) rfl (Nat.le_of_ble_eq_true rfl) rfl (kA fun r234 h234 n234 t234 e234 => ?_) kN
  obtain ⟨q9, q8, q7⟩ := e234; have q9 := q9.symm; have q8 := q8.symm; have q7 := q7.symm; subst q9; subst q8; subst q7
  refine r_callS (M' := mJ1_parentOf) _ dJ1_fixAfterInsertion_237 q2038 q2039 rfl (lw_all_tbl q2040) q128 (by exact pl_J1_parentOf)  ((k_parentOf g_us (Or.inr ⟨_, rfl⟩))) (by omega) (Nat.le_of_ble_eq_true rfl) (by omega) (by omega) rfl (Nat.le_of_ble_eq_true rfl) rfl (kA fun r237 h237 n237 t237 e237 => ?_) kN
  obtain ⟨q9, q8, q7⟩ := e237; have q9 := q9.symm; have q8 := q8.symm; have q7 := q7.symm; subst q9; subst q8; subst q7
  refine r_iconst (v := nI 0) dJ1_fixAfterInsertion_240 (by decide) ?_
  refine r_callS (M' := mJ1_setColor) _ dJ1_fixAfterInsertion_241 q2050 q2051 rfl (lw_all_tbl q2052) q128 (by exact pl_J1_setColor)  ((k_setColor0 bg (by rw [g_un (Ne.symm pg)]; exact eg))) (by omega) (Nat.le_of_ble_eq_true rfl) (by omega) (by omega) rfl (Nat.le_of_ble_eq_true rfl) rfl (kV fun h241 n241 e241 => ?_) kN
  obtain ⟨rfl, rfl⟩ := e241
  generalize hh3 : g_up (g_up h1 p (nC kp vp w (.ref x) (.ref g) true)) g (nC kg vg o (.ref p) qg false) = h3
  have hh3' : g_up (g_up h1 p (trS true kp vp (.ref x) w (.ref g) true)) g (trS true kg vg (.ref p) o qg false) = h3 := hh3
  rw [hh3'] at c3 sw3 ex3 ep3 eg3
  have fin := fun h' r => fin h' (by rw [hh3']; exact r)
  have hm3 : h3 mp = some (trM t sz mc nk) := by rw [← hh3, g_un (Ne.symm mpg), g_un (Ne.symm mpp)]; exact hm
  have f3 : fr h h3 mp N := by rw [← hh3]; exact (f1.up ⟨_, hp, rfl⟩).up ⟨_, hg, rfl⟩
  have ex3 : h3 x = some (nC kx vx xf xn (.ref p) false) := ex3
  have ep3' : h3 p = some (nC kp vp w (.ref x) (.ref g) true) := ep3
  have fb : w = .null ∨ ∃ (b : Nat) (kb vb lb rb : Value) (cb : Bool), w = .ref b ∧ h3 b = some (nC kb vb lb rb (.ref p) cb) ∧ b ≠ g ∧ b ≠ p ∧ k_b K ≤ b ∧ qg ≠ .ref b := by
    rcases fb_of sw3 with e | ⟨b, kb, vb, lb, rb, cb, e, eb, hb⟩
    · exact Or.inl e
    · refine Or.inr ⟨b, kb, vb, lb, rb, cb, e, eb, n3 _ (mem_ls2.mpr (Or.inr (Or.inr hb))), m4 _ hb, fa _ (hW _ hb), fun e9 => ?_⟩
      rcases fq_of c3 (fun z hz => (nz z hz).1) with ⟨-, e8⟩ | ⟨e', s', ke, ve, o', qe, ce, e8, -, hz, -⟩
      · rw [e8] at e9; cases e9
      · rw [e8] at e9; cases e9; exact nab _ hz _ (mem_ls2.mpr (Or.inr (Or.inl (mem_ls2.mpr (Or.inr (Or.inr hb)))))) rfl
  have fq : qg = .null ∨ ∃ (e : Nat) (s : Bool) (ke ve o qe : Value) (ce : Bool), qg = .ref e ∧ h3 e = some (trS s ke ve (.ref g) o qe ce) ∧ e ≠ g ∧ e ≠ p ∧ k_b K ≤ e ∧ (o = .null ∨ ∃ z, o = .ref z ∧ z ≠ g) := by
    rcases fq_of c3 (fun z hz => (nz z hz).1) with ⟨-, e8⟩ | ⟨e', s', ke, ve, o', qe, ce, e8, e7, hz, e6⟩
    · exact Or.inl e8
    · exact Or.inr ⟨e', s', ke, ve, o', qe, ce, e8, e7, (nz _ hz).1, (nz _ hz).2, fa _ (hA _ hz), e6⟩
  have fb2 : w = .null ∨ ∃ z ∈ N, w = .ref z.1 := by
    rcases fb_of sw3 with e | ⟨b, kb, vb, lb, rb, cb, e, eb, hb⟩
    · exact Or.inl e
    · exact Or.inr ⟨_, hW _ hb, e⟩
  have fq2 : qg = .null ∨ ∃ z ∈ N, qg = .ref z.1 := by
    rcases fq_of c3 (fun z hz => (nz z hz).1) with ⟨-, e8⟩ | ⟨e', s', ke, ve, o', qe, ce, e8, e7, hz, e6⟩
    · exact Or.inl e8
    · exact Or.inr ⟨_, hA _ hz, e8⟩
  refine r_aload0 dJ1_fixAfterInsertion_244 ?_
  refine r_aload1 dJ1_fixAfterInsertion_245 ?_
  refine r_callS (M' := mJ1_parentOf) _ dJ1_fixAfterInsertion_246 q2038 q2039 rfl (lw_all_tbl q2040) q128 (by exact pl_J1_parentOf)  ((k_parentOf ex3 (Or.inr ⟨_, rfl⟩))) (by omega) (Nat.le_of_ble_eq_true rfl) (by omega) (by omega) rfl (Nat.le_of_ble_eq_true rfl) rfl (kA fun r246 h246 n246 t246 e246 => ?_) kN
  obtain ⟨q9, q8, q7⟩ := e246; have q9 := q9.symm; have q8 := q8.symm; have q7 := q7.symm; subst q9; subst q8; subst q7
  refine r_callS (M' := mJ1_parentOf) _ dJ1_fixAfterInsertion_249 q2038 q2039 rfl (lw_all_tbl q2040) q128 (by exact pl_J1_parentOf)  ((k_parentOf ep3' (Or.inr ⟨_, rfl⟩))) (by omega) (Nat.le_of_ble_eq_true rfl) (by omega) (by omega) rfl (Nat.le_of_ble_eq_true rfl) rfl (kA fun r249 h249 n249 t249 e249 => ?_) kN
  obtain ⟨q9, q8, q7⟩ := e249; have q9 := q9.symm; have q8 := q8.symm; have q7 := q7.symm; subst q9; subst q8; subst q7
  refine r_callV (M' := mJ1_rotateLeft) _ dJ1_fixAfterInsertion_252 q2053 q2055 qs27 rfl (lw_all_tbl q2056) q128 (by exact pl_J1_rotateLeft) gc_J1 (by first | assumption | exact g_us | (rw [g_un (by omega)]; assumption) | (rw [g_un (by omega)]; exact g_us) | (rw [g_un (by omega), g_un (by omega)]; assumption) | (rw [g_un (by omega), g_un (by omega)]; exact g_us) | (rw [g_un (by omega), g_un (by omega), g_un (by omega)]; assumption) | ((repeat (rw [g_un (by omega)])); first | exact g_us | assumption)) ((k_rotL (a := g) (y := p) bm bg bp hm3 eg3 ep3 (Ne.symm pg) fb fq)) (by omega) (Nat.le_of_ble_eq_true rfl) (by omega) (by omega) rfl (Nat.le_of_ble_eq_true rfl) rfl (kV fun h252 n252 e252 => ?_) kN
  obtain ⟨hr, rfl⟩ := e252
  obtain ⟨t', ct, sP, ct1, ct2, ex4, ep4⟩ := fin _ hr
  have hm4 := hr.mp ⟨_, hg, rfl⟩ ⟨_, hp, rfl⟩ fb2 fq2 nmp hm3 ct1 ct2
  have f4 := f3.tr (hr.fr ⟨_, hg, rfl⟩ ⟨_, hp, rfl⟩ fb2 fq2)
  have sN := ct.plug sP
  rw [eN] at sN
  have ht : ∃ b, t' = .ref b := by
    rcases ct.root with ⟨-, -, -, -, e⟩ | ⟨-, z, -, e⟩
    · exact ⟨_, e⟩
    · exact ⟨_, e⟩
  obtain ⟨b, rfl⟩ := ht
  have ex4 : h252 x = some (nC kx vx xf xn (.ref p) false) := ex4
  have ep4 : h252 p = some (g_ob 24 [kp, vp, .ref g, .ref x, qg, .int (nI 1)]) := ep4
  refine r_goto (tgt := 5) dJ1_fixAfterInsertion_255 (by decide) ?_
  skip
  refine r_aload1 dJ1_fixAfterInsertion_5 ?_
  refine r_ifnull dJ1_fixAfterInsertion_6 ?_
  refine r_aload1 dJ1_fixAfterInsertion_9 ?_
  refine r_aload0 dJ1_fixAfterInsertion_10 ?_
  refine f_J1_101_J1 dJ1_fixAfterInsertion_11 (by first | assumption | exact g_us | (rw [g_un (by omega)]; assumption) | (rw [g_un (by omega)]; exact g_us) | (rw [g_un (by omega), g_un (by omega)]; assumption) | (rw [g_un (by omega), g_un (by omega)]; exact g_us) | (rw [g_un (by omega), g_un (by omega), g_un (by omega)]; assumption) | ((repeat (rw [g_un (by omega)])); first | exact g_us | assumption)) ?_
  refine r_acmp_eq (tgt := 258) dJ1_fixAfterInsertion_14 (by decide) (fun c14 => ?_) (fun c14 => ?_)
  · exact k_fix0 bm fa nd nmp b _ o2 _ hm4 sN f4
  · refine r_aload1 dJ1_fixAfterInsertion_17 ?_
    refine f_J1_124_J21 dJ1_fixAfterInsertion_18 (by first | assumption | exact g_us | (rw [g_un (by omega)]; assumption) | (rw [g_un (by omega)]; exact g_us) | (rw [g_un (by omega), g_un (by omega)]; assumption) | (rw [g_un (by omega), g_un (by omega)]; exact g_us) | (rw [g_un (by omega), g_un (by omega), g_un (by omega)]; assumption) | ((repeat (rw [g_un (by omega)])); first | exact g_us | assumption)) ?_
    refine f_J1_290_J21 dJ1_fixAfterInsertion_21 (by first | assumption | exact g_us | (rw [g_un (by omega)]; assumption) | (rw [g_un (by omega)]; exact g_us) | (rw [g_un (by omega), g_un (by omega)]; assumption) | (rw [g_un (by omega), g_un (by omega)]; exact g_us) | (rw [g_un (by omega), g_un (by omega), g_un (by omega)]; assumption) | ((repeat (rw [g_un (by omega)])); first | exact g_us | assumption)) ?_
    refine r_if_neN (tgt := 258) dJ1_fixAfterInsertion_24 (by decide) (by omega) (fun c24 => ?_) (fun c24 => absurd c24 (by omega))
    exact k_fix0 bm fa nd nmp b _ o2 _ hm4 sN f4

end
