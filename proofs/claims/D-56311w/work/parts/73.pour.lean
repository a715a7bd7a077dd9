/-! pour -/
set_option maxRecDepth 100000
section
variable {K : g_K} {W : c_W} {A : Nat → Nat} {lo hi b t l e n u : Nat} {ρ ρ' : Nat → Nat} {α : Nat → Int64} {h h' : g_P}
theorem wB_prN (w : wB u ρ) {i l j : Nat} (hj : i + j ≤ ρ 1) : wB u (prN ρ i l j).1 := by
  have b1 := w.b
  have f1 : (prN ρ i l j).1 1 = ρ 1 := prN_out (by omega)
  refine w.ofB (by rw [f1]; exact b1.2.2.1) (fun q h h' => prN_out (by omega)) (fun k hk => ?_) (fun k hk hk2 => ?_)
  · rw [f1] at hk
    have e22 : (prN ρ i l j).1 (22 + 2 * k) = ρ (22 + 2 * k) := prN_out (by omega)
    have o := w.o hk
    rw [e22]
    exact ⟨o.1, o.2.1, prN_in i _ (fun q hq => (w.o hq).2.2) j hj k hk⟩
  · rw [f1] at hk2
    rw [prN_out (by omega)]
    exact w.2.2.2.1 k hk hk2
/-- the bowls don't ask for the doughs -/
theorem prN_std {i l k a c : Nat} (hk : k < 6) (j : Nat) (hj : i + j ≤ 5) : prN (std ρ k a c) i l j = (std (prN ρ i l j).1 k a c, (prN ρ i l j).2) := by
  induction j with
  | zero => rfl
  | succ j ih =>
    have ih := ih (by omega)
    have e1 : ∀ (σ : Nat → Nat) (q : Nat), 22 ≤ q → std σ k a c q = σ q := fun σ q hq => by unfold std; rw [fup_n (by omega), fup_n (by omega)]
    have e2 : ∀ (σ : Nat → Nat) (q v : Nat), 22 ≤ q → fup (std σ k a c) q v = std (fup σ q v) k a c := fun σ q v hq => by
      unfold std
      funext z
      by_cases z1 : z = q
      · subst z1; rw [fup_s, fup_n (by omega), fup_n (by omega), fup_s]
      · rw [fup_n z1]
        by_cases z2 : z = 11 + 2 * k
        · subst z2; rw [fup_s, fup_s]
        · rw [fup_n z2, fup_n z2]
          by_cases z3 : z = 10 + 2 * k
          · subst z3; rw [fup_s, fup_s]
          · rw [fup_n z3, fup_n z3, fup_n z1]
    unfold prN
    rw [ih]
    dsimp only
    rw [e1 _ _ (by omega), e1 _ _ (by omega), e2 _ _ _ (by omega)]
theorem int64_pour {x y c d e f g : Int64} (h : e * f = d) : x + d * y + g * f = x + (g - c * e) * f + d * (y + c) := by
  rw [← h]
  grind
theorem int64_pour2 {c d e f g x : Int64} (h : e * f = d) : x + (g * f - d * c) = x + (g - c * e) * f := by
  rw [← h]
  grind
theorem bkO_p {b t l e : Nat} {x y z : Int64} : bkO b t l e ρ (fup (fup (fup α 6 x) 9 y) 7 z) = g_ob 1 [.ref t, .ref l, .ref e, .int (nI (ρ 3)), .int (nI (ρ 4)), .int (nI (ρ 5)), .long x, .long z, .long (α 8), .long y, .long (y + lN 27720 * x)] := by
  unfold bkO
  rw [fup_s, fup_n (by decide : (6 : Nat) ≠ 7), fup_n (by decide : (6 : Nat) ≠ 9), fup_s, fup_n (by decide : (8 : Nat) ≠ 7), fup_n (by decide : (8 : Nat) ≠ 9), fup_n (by decide : (8 : Nat) ≠ 6), fup_n (by decide : (9 : Nat) ≠ 7), fup_s]
theorem lN_27720 {y : Nat} (h1 : 1 ≤ y) (h2 : y ≤ 12) : lN y * lN (27720 / y) = lN 27720 := by
  have : y = 1 ∨ y = 2 ∨ y = 3 ∨ y = 4 ∨ y = 5 ∨ y = 6 ∨ y = 7 ∨ y = 8 ∨ y = 9 ∨ y = 10 ∨ y = 11 ∨ y = 12 := by omega
  rcases this with rfl | rfl | rfl | rfl | rfl | rfl | rfl | rfl | rfl | rfl | rfl | rfl <;> rw [lN_mul]
theorem k_pour2 (w0 : cOK K W) (wl : lOK K A) (k : bk K W lo n b ρ α h) (w : wB u ρ) {p p2 : Int32} : g_Met K mX2_pour 148 2 9 [.ref b, .int p, .int p2] h n (muP K W lo b h n 1 (ePo ρ p p2) (nI (poD ρ (tN p) (tN p2)).2) (poD ρ (tN p) (tN p2)).1 (fup (fup (fup α 6 (α 6 + lN (crm ρ (tN p)))) 9 (α 9 + erp ρ (tN p))) 7 (α 7 + lN (poD ρ (tN p) (tN p2)).2))) (muX W [105] h n (ePo ρ p p2)) := by
  refine g_Met.facts fun f1 f2 f3 => ?_
  have wb := w.b
  have klo := k.1
  have main : ∀ (i j0 : Nat), i < ρ 0 → j0 < ρ 1 → g_G K mX2_pour 148 1 2 (muP K W lo b h n 1 0 (nI (poD ρ i j0).2) (poD ρ i j0).1 (fup (fup (fup α 6 (α 6 + lN (crm ρ i))) 9 (α 9 + erp ρ i)) 7 (α 7 + lN (poD ρ i j0).2))) (muX W [105] h n (ePo ρ p p2)) 26 [some (.ref b), some (.int (nI i)), some (.int (nI j0)), none, none, none, none] [] h n := by
    intro i j0 hi hj0
    have wi := w.d hi
    have crb : crm ρ i ≤ 99990001 := by
      have q1 := rnd_b (rule := ρ 4) (ab := ρ (10 + 2 * i) * 10 ^ ρ 3) (be := ρ (11 + 2 * i))
      have q2 : ρ (10 + 2 * i) * 10 ^ ρ 3 / ρ (11 + 2 * i) ≤ ρ (10 + 2 * i) * 10 ^ ρ 3 := Nat.div_le_self _ _
      have q3 : ρ (10 + 2 * i) * 10 ^ ρ 3 ≤ 9999 * 10000 := Nat.mul_le_mul wi.1 (p10_b wb.2.2.2.2.1)
      unfold crm
      omega
    have loop : ∀ (g j : Nat) (o6 : Option Value) (hj : g_P), j0 + j + g = ρ 1 → bk K W lo n b (prN ρ j0 (crm ρ i) j).1 α hj → (∀ q : Nat, q < lo → hj q = h q) → g_c1 o6 → g_G K mX2_pour 148 1 2 (muP K W lo b h n 1 0 (nI (poD ρ i j0).2) (poD ρ i j0).1 (fup (fup (fup α 6 (α 6 + lN (crm ρ i))) 9 (α 9 + erp ρ i)) 7 (α 7 + lN (poD ρ i j0).2))) (muX W [105] h n (ePo ρ p p2)) 38 [some (.ref b), some (.int (nI i)), some (.int (nI j0)), some (.int (nI (crm ρ i))), some (.int (nI (prN ρ j0 (crm ρ i) j).2)), some (.int (nI (j0 + j))), o6] [] hj n := by
      intro g
      induction g with
      | zero =>
        intro j o6 hj ej kj fj g6
        have : j = ρ 1 - j0 := by omega
        subst this
        have wj := wB_prN (u := u) w (i := j0) (l := crm ρ i) (j := ρ 1 - j0) (by omega)
        have k1 := kj
        have le := prN_le (ρ := ρ) (i := j0) (l := crm ρ i) (j := ρ 1 - j0)
        have e1 : (prN ρ j0 (crm ρ i) (ρ 1 - j0)).1 1 = ρ 1 := prN_out (by omega)
        have e0 : (prN ρ j0 (crm ρ i) (ρ 1 - j0)).1 0 = ρ 0 := prN_out (by omega)
        have e3 : (prN ρ j0 (crm ρ i) (ρ 1 - j0)).1 3 = ρ 3 := prN_out (by omega)
        have e10 : (prN ρ j0 (crm ρ i) (ρ 1 - j0)).1 (10 + 2 * i) = ρ (10 + 2 * i) := prN_out (by omega)
        have e11 : (prN ρ j0 (crm ρ i) (ρ 1 - j0)).1 (11 + 2 * i) = ρ (11 + 2 * i) := prN_out (by omega)
        have ep : poD ρ i j0 = (std (prN ρ j0 (crm ρ i) (ρ 1 - j0)).1 i 0 1, (prN ρ j0 (crm ρ i) (ρ 1 - j0)).2) := prN_std (by omega) _ (by omega)
        rw [ep]
        dsimp only
        obtain ⟨c1, c2, c3, t0, lb0, eb0, ll0, el0, c4, c5, c6, c7, c8⟩ := kj
        obtain ⟨y1, y2, y3⟩ := c6.cell
        obtain ⟨tvs, hm⟩ := c5.cell
        refine g_facts fun _ j2 j3 => ?_
        obtain ⟨x, z1, z2, z3⟩ := k_getD (n := n) w0 j3 c5 (by rw [e0]; omega) (i := i) (by rw [e0]; omega)
        have z1' : hj x = some (g_ob 4 [.int (nI (ρ (10 + 2 * i))), .int (nI (ρ (11 + 2 * i)))]) := by rw [z1]; unfold fc; rw [e10, e11]
        have k01 := k1.own (u := u) (α' := fup (fup (fup α 6 (α 6 + lN (crm ρ i))) 9 (α 9 + erp ρ i)) 7 (α 7 + lN (prN ρ j0 (crm ρ i) (ρ 1 - j0)).2)) wj (fun q hq => rfl) (c := bkO b t0 lb0 ll0 (prN ρ j0 (crm ρ i) (ρ 1 - j0)).1 (fup (fup (fup α 6 (α 6 + lN (crm ρ i))) 9 (α 9 + erp ρ i)) 7 (α 7 + lN (prN ρ j0 (crm ρ i) (ρ 1 - j0)).2))) (fun t' lb' ll' hh => by obtain ⟨rfl, rfl, rfl⟩ := bkO_inj c4 hh; rfl)
        refine r_iload5 dX2_pour_38 ?_
        refine r_aload0 dX2_pour_40 ?_
        refine f_X2_21_X2 dX2_pour_41 c4 ?_
        refine r_callF (M' := mJ4_size) _ dX2_pour_44 q1895 q413 q412 rfl q415 q417 q418 q416 q414 rfl (lw_all_tbl q419) q131 (by exact (⟨by decide, by decide, by decide +kernel⟩ : g_pl ⟨"java/util/List", "size", "()I"⟩ 0)) gc_J4 y3 ((k_sizeB c6)) (by omega) (Nat.le_of_ble_eq_true rfl) (by omega) (by omega) rfl (Nat.le_of_ble_eq_true rfl) rfl (kI fun r44 h44 n44 e44 => ?_) kN
        obtain ⟨q9, q8, q7⟩ := e44; have q9 := q9.symm; have q8 := q8.symm; have q7 := q7.symm; subst q9; subst q8; subst q7
        refine r_icmp_geN (tgt := 113) dX2_pour_49 (by decide) (by omega) (by omega) (fun c49 => ?_) (fun c49 => absurd c49 (by omega))
        refine r_aload0 dX2_pour_113 ?_
        refine f_X2_12_X2 dX2_pour_114 c4 ?_
        refine r_iload1 dX2_pour_117 ?_
        refine r_callS (M' := mJ14_valueOf) _ dX2_pour_118 q1777 q1778 rfl (lw_all_tbl q1779) q144 (by exact pl_J14_valueOf)  ((k_valueOf w0 (by omega))) (by omega) (Nat.le_of_ble_eq_true rfl) (by omega) (by omega) rfl (Nat.le_of_ble_eq_true rfl) rfl (kA fun r118 h118 n118 t118 e118 => ?_) kN
        obtain ⟨q9, q8, q7⟩ := e118; have q9 := q9.symm; have q8 := q8.symm; have q7 := q7.symm; subst q9; subst q8; subst q7
        refine r_callV (M' := mJ1_get) _ dX2_pour_121 q1796 q1797 q1798 rfl (lw_all_tbl q1799) q128 (by exact pl_J1_get) gc_J1 hm (z3) (by omega) (Nat.le_of_ble_eq_true rfl) (by omega) (by omega) rfl (Nat.le_of_ble_eq_true rfl) rfl (kA fun r121 h121 n121 t121 e121 => ?_) kN
        obtain ⟨q9, q8, q7⟩ := e121; have q9 := q9.symm; have q8 := q8.symm; have q7 := q7.symm; subst q9; subst q8; subst q7
        refine r_checkcast dX2_pour_124 gc_X6 q1816 (Or.inl rfl) z1' ?_
        refine r_aload0 dX2_pour_127 ?_
        refine f_X2_28_X2 dX2_pour_128 c4 ?_
        rw [e3]
        refine r_callV (M' := mX6_parts) _ dX2_pour_131 q2530 q2531 q2532 rfl (lw_all_tbl q2533) q146 (by exact pl_X6_parts) gc_X6 z1' ((k_parts wb.2.2.2.2.1 wi.1 wi.2.1 wi.2.2.1 z1')) (by omega) (Nat.le_of_ble_eq_true rfl) (by omega) (by omega) rfl (Nat.le_of_ble_eq_true rfl) rfl (kJ fun r131 h131 n131 e131 => ?_) kN
        obtain ⟨q9, q8, q7⟩ := e131; have q9 := q9.symm; have q8 := q8.symm; have q7 := q7.symm; subst q9; subst q8; subst q7
        refine r_lstore5 dX2_pour_134 ?_
        refine r_aload0 dX2_pour_136 ?_
        refine r_dup dX2_pour_137 ?_
        refine f_X2_117_X2 dX2_pour_138 c4 ?_
        refine r_lload5 dX2_pour_141 ?_
        refine r_ladd dX2_pour_143 rfl ?_
        refine p_X2_117_X2 dX2_pour_144 (by omega) c4 ?_
        refine r_aload0 dX2_pour_147 ?_
        refine r_dup dX2_pour_148 ?_
        refine f_X2_114_X2 dX2_pour_149 g_us ?_
        refine r_lload5 dX2_pour_152 ?_
        refine r_ldc2 dX2_pour_154 q2100 ?_
        refine r_iload3 dX2_pour_157 ?_
        refine r_i2l dX2_pour_158 (i2l_nI (by omega)) ?_
        refine r_lmul dX2_pour_159 rfl ?_
        refine r_lsub dX2_pour_160 rfl ?_
        refine r_ladd dX2_pour_161 rfl ?_
        refine p_X2_114_X2 dX2_pour_162 (by omega) g_us ?_
        refine r_aload0 dX2_pour_165 ?_
        refine r_dup dX2_pour_166 ?_
        refine f_X2_104_X2 dX2_pour_167 g_us ?_
        refine r_iload3 dX2_pour_170 ?_
        refine r_i2l dX2_pour_171 (i2l_nI (by omega)) ?_
        refine r_ladd dX2_pour_172 rfl ?_
        refine p_X2_104_X2 dX2_pour_173 (by omega) g_us ?_
        refine r_aload0 dX2_pour_176 ?_
        refine r_dup dX2_pour_177 ?_
        refine f_X2_108_X2 dX2_pour_178 g_us ?_
        refine r_iload4 dX2_pour_181 ?_
        refine r_i2l dX2_pour_183 (i2l_nI (by omega)) ?_
        refine r_ladd dX2_pour_184 rfl ?_
        refine p_X2_108_X2 dX2_pour_185 (by omega) g_us ?_
        refine g_eq (h' := g_up hj b (bkO b t0 lb0 ll0 (prN ρ j0 (crm ρ i) (ρ 1 - j0)).1 (fup (fup (fup α 6 (α 6 + lN (crm ρ i))) 9 (α 9 + erp ρ i)) 7 (α 7 + lN (prN ρ j0 (crm ρ i) (ρ 1 - j0)).2)))) rfl rfl rfl ?_ ?_
        · rw [g_up_up, g_up_up, g_up_up, bkO_p, ← show α 9 + lN 27720 * α 6 + lN (ρ (10 + 2 * i)) * lN (10 ^ ρ 3) * lN (27720 / ρ (11 + 2 * i)) = α 9 + erp ρ i + lN 27720 * (α 6 + lN (crm ρ i)) from int64_pour (lN_27720 wi.2.1 wi.2.2.1), ← show α 9 + (lN (ρ (10 + 2 * i)) * lN (10 ^ ρ 3) * lN (27720 / ρ (11 + 2 * i)) - lN 27720 * lN (crm ρ i)) = α 9 + erp ρ i from int64_pour2 (lN_27720 wi.2.1 wi.2.2.1)]
          rfl
        obtain ⟨d1, d2, d3, t, lb, eb, ll, el, d4, d5, d6, d7, d8⟩ := k01
        obtain ⟨tvs, hm⟩ := d5.cell
        refine r_aload0 dX2_pour_188 ?_
        refine f_X2_12_X2 dX2_pour_189 d4 ?_
        refine r_iload1 dX2_pour_192 ?_
        refine r_callS (M' := mJ14_valueOf) _ dX2_pour_193 q1777 q1778 rfl (lw_all_tbl q1779) q144 (by exact pl_J14_valueOf)  ((k_valueOf w0 (by omega))) (by omega) (Nat.le_of_ble_eq_true rfl) (by omega) (by omega) rfl (Nat.le_of_ble_eq_true rfl) rfl (kA fun r193 h193 n193 t193 e193 => ?_) kN
        obtain ⟨q9, q8, q7⟩ := e193; have q9 := q9.symm; have q8 := q8.symm; have q7 := q7.symm; subst q9; subst q8; subst q7
        refine n_X2_74 dX2_pour_196 (by omega) (by omega) ?_
        refine r_dup dX2_pour_199 ?_
        refine r_iconst (v := nI 0) dX2_pour_200 (by decide) ?_
        refine r_iconst (v := nI 1) dX2_pour_201 (by decide) ?_
        refine r_callI (M' := mX6_init) _ dX2_pour_202 q2185 q2186 rfl rfl rfl (lw_all_tbl q2187) q146 (by exact pl_X6_init)  ((k_X6_init (a := n) (x := 0) (y := 1) (by omega) (by omega) (by omega) f1 g_us)) (by omega) (Nat.le_of_ble_eq_true rfl) (by omega) (by omega) rfl (Nat.le_of_ble_eq_true rfl) rfl (kV fun h202 n202 e202 => ?_) kN
        obtain ⟨q8, q7⟩ := e202; have q8 := q8.symm; have q7 := q7.symm; subst q8; subst q7
        have k52 := (d5.keep (h' := g_up (g_up (g_up hj b (bkO b t0 lb0 ll0 (prN ρ j0 (crm ρ i) (ρ 1 - j0)).1 (fup (fup (fup α 6 (α 6 + lN (crm ρ i))) 9 (α 9 + erp ρ i)) 7 (α 7 + lN (prN ρ j0 (crm ρ i) (ρ 1 - j0)).2)))) n (g_ob 4 [.int (nI 0), .int (nI 0)])) n (g_ob 4 [.int (nI (0 / Nat.gcd 0 1)), .int (nI (1 / Nat.gcd 0 1))])) (fun q hq => by rw [g_un (by omega), g_un (by omega)])).mono (Nat.le_succ n)
        obtain ⟨tvs3, hm3⟩ := k52.cell
        refine r_callV (M' := mJ1_put) _ dX2_pour_205 q2205 q1985 q4020 rfl (lw_all_tbl q1987) q128 (by exact pl_J1_put) gc_J1 hm3 ((bkD_.put w0 k52 (by rw [e0]; omega) c1 (i := i) (f := n) (by rw [e0]; omega) g_us (by omega))) (by omega) (Nat.le_of_ble_eq_true rfl) (by omega) (by omega) rfl (Nat.le_of_ble_eq_true rfl) rfl (kA fun r205 h205 n205 t205 e205 => ?_) kN
        obtain ⟨z15, ⟨nd2, nvs2, z16, z17, z18⟩, rfl⟩ := e205
        have hcat : r205.category = 1 := by rcases t205 with rfl | ⟨y, rfl⟩ <;> rfl
        have fO : ∀ (q k : Nat) (vs : List Value), (g_up hj b (bkO b t0 lb0 ll0 (prN ρ j0 (crm ρ i) (ρ 1 - j0)).1 (fup (fup (fup α 6 (α 6 + lN (crm ρ i))) 9 (α 9 + erp ρ i)) 7 (α 7 + lN (prN ρ j0 (crm ρ i) (ρ 1 - j0)).2)))) q = some (g_ob k vs) → q < n → k ≠ 24 → k ≠ 17 → h205 q = (g_up hj b (bkO b t0 lb0 ll0 (prN ρ j0 (crm ρ i) (ρ 1 - j0)).1 (fup (fup (fup α 6 (α 6 + lN (crm ρ i))) 9 (α 9 + erp ρ i)) 7 (α 7 + lN (prN ρ j0 (crm ρ i) (ρ 1 - j0)).2)))) q := fun q k vs q1 q2 q3 q4 => by
          rw [z18 q (fun z => by rw [← z, g_un (by omega), g_un (by omega), q1] at z16; exact q3 (obj_inj z16)), g_un (by omega), g_un (by omega)]
        have fA : ∀ (q k : Nat) (vs : List Value), (g_up hj b (bkO b t0 lb0 ll0 (prN ρ j0 (crm ρ i) (ρ 1 - j0)).1 (fup (fup (fup α 6 (α 6 + lN (crm ρ i))) 9 (α 9 + erp ρ i)) 7 (α 7 + lN (prN ρ j0 (crm ρ i) (ρ 1 - j0)).2)))) q = some (g_ar k vs) → q < n → h205 q = (g_up hj b (bkO b t0 lb0 ll0 (prN ρ j0 (crm ρ i) (ρ 1 - j0)).1 (fup (fup (fup α 6 (α 6 + lN (crm ρ i))) 9 (α 9 + erp ρ i)) 7 (α 7 + lN (prN ρ j0 (crm ρ i) (ρ 1 - j0)).2)))) q := fun q k vs q1 q2 => by
          rw [z18 q (fun z => by rw [← z, g_un (by omega), g_un (by omega), q1] at z16; exact obj_arr z16.symm), g_un (by omega), g_un (by omega)]
        refine r_pop dX2_pour_208 ?_ hcat
        refine r_iload4 dX2_pour_209 ?_
        exact r_ireturn dX2_pour_211 rfl rfl (⟨rfl, rfl, bk_D d1 d2 d3 d4 d6 d7 d8 wj (Nat.le_succ n) fO fA (fun q q1 q2 => by unfold std; rw [fup_n (by omega), fup_n (by omega)]) z15, fun q hq => by rw [z18 q (by have := z17.1; omega), g_un (by have := c3.1; have := c3.2; omega), g_un (by have := c3.1; have := c3.2; omega), g_un (by have := c3.1; omega), fj q hq], by omega, by omega⟩)
      | succ g ih =>
        intro j o6 hj ej kj fj g6
        have wj := wB_prN (u := u) w (i := j0) (l := crm ρ i) (j := j) (by omega)
        have le := prN_le (ρ := ρ) (i := j0) (l := crm ρ i) (j := j)
        have e1 : (prN ρ j0 (crm ρ i) j).1 1 = ρ 1 := prN_out (by omega)
        obtain ⟨c1, c2, c3, t0, lb0, eb0, ll0, el0, c4, c5, c6, c7, c8⟩ := kj
        obtain ⟨y1, y2, y3⟩ := c6.cell
        obtain ⟨x, z1, z2, z3, z4⟩ := c6.bowl (i := j0 + j) (by omega)
        have wo := wj.o (k := j0 + j) (by omega)
        have k10 := bk_putB (v := (prN ρ j0 (crm ρ i) j).1 (23 + 2 * (j0 + j)) + min (prN ρ j0 (crm ρ i) j).2 ((prN ρ j0 (crm ρ i) j).1 (22 + 2 * (j0 + j)) - (prN ρ j0 (crm ρ i) j).1 (23 + 2 * (j0 + j)))) wj (by omega) c1 c2 c3 c4 c5 c7 c8 z1 (z4 _)
        refine r_iload5 dX2_pour_38 ?_
        refine r_aload0 dX2_pour_40 ?_
        refine f_X2_21_X2 dX2_pour_41 c4 ?_
        refine r_callF (M' := mJ4_size) _ dX2_pour_44 q1895 q413 q412 rfl q415 q417 q418 q416 q414 rfl (lw_all_tbl q419) q131 (by exact (⟨by decide, by decide, by decide +kernel⟩ : g_pl ⟨"java/util/List", "size", "()I"⟩ 0)) gc_J4 y3 ((k_sizeB c6)) (by omega) (Nat.le_of_ble_eq_true rfl) (by omega) (by omega) rfl (Nat.le_of_ble_eq_true rfl) rfl (kI fun r44 h44 n44 e44 => ?_) kN
        obtain ⟨q9, q8, q7⟩ := e44; have q9 := q9.symm; have q8 := q8.symm; have q7 := q7.symm; subst q9; subst q8; subst q7
        refine r_icmp_geN (tgt := 113) dX2_pour_49 (by decide) (by omega) (by omega) (fun c49 => absurd c49 (by omega)) (fun c49 => ?_)
        refine r_iload4 dX2_pour_52 ?_
        refine r_aload0 dX2_pour_54 ?_
        refine f_X2_21_X2 dX2_pour_55 c4 ?_
        refine r_iload5 dX2_pour_58 ?_
        refine r_callF (M' := mJ4_get) _ dX2_pour_60 q1907 q468 q467 rfl q469 q471 q472 q470 q414 rfl (lw_all_tbl q473) q131 (by exact (⟨by decide, by decide, by decide +kernel⟩ : g_pl ⟨"java/util/List", "get", "(I)Ljava/lang/Object;"⟩ 1)) gc_J4 y3 ((z3 _)) (by omega) (Nat.le_of_ble_eq_true rfl) (by omega) (by omega) rfl (Nat.le_of_ble_eq_true rfl) rfl (kA fun r60 h60 n60 t60 e60 => ?_) kN
        obtain ⟨q9, q8, q7⟩ := e60; have q9 := q9.symm; have q8 := q8.symm; have q7 := q7.symm; subst q9; subst q8; subst q7
        refine r_checkcast dX2_pour_65 gc_X7 q1647 (Or.inl rfl) z1 ?_
        refine r_callV (M' := mX7_room) _ dX2_pour_68 q2525 q2526 q2527 rfl (lw_all_tbl q2528) q172 (by exact pl_X7_room) gc_X7 z1 ((k_room wo.2.2 z1)) (by omega) (Nat.le_of_ble_eq_true rfl) (by omega) (by omega) rfl (Nat.le_of_ble_eq_true rfl) rfl (kI fun r68 h68 n68 e68 => ?_) kN
        obtain ⟨q9, q8, q7⟩ := e68; have q9 := q9.symm; have q8 := q8.symm; have q7 := q7.symm; subst q9; subst q8; subst q7
        refine r_callS (M' := mJ16_min) _ dX2_pour_71 q2529 q594 rfl (lw_all_tbl q595) q148 (by exact pl_J16_min)  ((k_min (by omega) (by omega))) (by omega) (Nat.le_of_ble_eq_true rfl) (by omega) (by omega) rfl (Nat.le_of_ble_eq_true rfl) rfl (kI fun r71 h71 n71 e71 => ?_) kN
        obtain ⟨q9, q8, q7⟩ := e71; have q9 := q9.symm; have q8 := q8.symm; have q7 := q7.symm; subst q9; subst q8; subst q7
        refine r_istore6 dX2_pour_74 ?_
        refine r_aload0 dX2_pour_76 ?_
        refine f_X2_21_X2 dX2_pour_77 c4 ?_
        refine r_iload5 dX2_pour_80 ?_
        refine r_callF (M' := mJ4_get) _ dX2_pour_82 q1907 q468 q467 rfl q469 q471 q472 q470 q414 rfl (lw_all_tbl q473) q131 (by exact (⟨by decide, by decide, by decide +kernel⟩ : g_pl ⟨"java/util/List", "get", "(I)Ljava/lang/Object;"⟩ 1)) gc_J4 y3 ((z3 _)) (by omega) (Nat.le_of_ble_eq_true rfl) (by omega) (by omega) rfl (Nat.le_of_ble_eq_true rfl) rfl (kA fun r82 h82 n82 t82 e82 => ?_) kN
        obtain ⟨q9, q8, q7⟩ := e82; have q9 := q9.symm; have q8 := q8.symm; have q7 := q7.symm; subst q9; subst q8; subst q7
        refine r_checkcast dX2_pour_87 gc_X7 q1647 (Or.inl rfl) z1 ?_
        refine r_dup dX2_pour_90 ?_
        refine f_X2_88_X7 dX2_pour_91 z1 ?_
        refine r_iload6 dX2_pour_94 ?_
        refine r_iadd dX2_pour_96 (nI_add _ _) ?_
        refine p_X2_88_X7 dX2_pour_97 (by omega) z1 ?_
        refine r_iload4 dX2_pour_100 ?_
        refine r_iload6 dX2_pour_102 ?_
        refine r_isub dX2_pour_104 (pk_sub (Nat.min_le_left _ _)) ?_
        refine r_istore4 dX2_pour_105 ?_
        refine r_iinc5 dX2_pour_107 (show _ = nI (j0 + (j + 1)) from (ii1 _)) ?_
        refine r_goto (tgt := 38) dX2_pour_110 (by decide) ?_
        exact ih (j + 1) _ _ (by omega) k10 (fun q hq => by rw [g_un (by have := z2.1; omega), fj q hq]) g_c1i
    obtain ⟨-, -, -, t9, lb9, eb9, ll9, el9, kb, -⟩ := id k
    refine r_aload0 dX2_pour_26 ?_
    refine r_iload1 dX2_pour_27 ?_
    refine r_callV (M' := mX2_crumbsIn) _ dX2_pour_28 q1773 q1774 q1775 rfl (lw_all_tbl q1776) q126 (by exact pl_X2_crumbsIn) gc_X2 kb ((k_crumbsIn2 w0 wl k w hi)) (by omega) (Nat.le_of_ble_eq_true rfl) (by omega) (by omega) rfl (Nat.le_of_ble_eq_true rfl) rfl (kI fun r28 h28 n28 e28 => ?_) kN
    obtain ⟨q9, q8, q7⟩ := e28; have q9 := q9.symm; have q8 := q8.symm; have q7 := q7.symm; subst q9; subst q8; subst q7
    refine r_istore3 dX2_pour_31 ?_
    refine r_iload3 dX2_pour_32 ?_
    refine r_istore4 dX2_pour_33 ?_
    refine r_iload2 dX2_pour_35 ?_
    refine r_istore5 dX2_pour_36 ?_
    exact loop (ρ 1 - j0) 0 none h (by omega) k (fun q hq => rfl) g_c1n
  obtain ⟨-, -, -, t9, lb9, eb9, ll9, el9, kb, -⟩ := id k
  refine g_Met.of (M := mX2_pour) (L := [some (.ref b), some (.int p), some (.int p2), none, none, none, none]) (by decide +kernel) (Nat.le_of_ble_eq_true rfl) rfl ?_
  refine r_aload0 dX2_pour_0 ?_
  refine r_iload1 dX2_pour_1 ?_
  refine r_callV (M' := mX2_hasDough) _ dX2_pour_2 q2399 q2400 q2401 rfl (lw_all_tbl q2402) q126 (by exact pl_X2_hasDough) gc_X2 kb ((k_hasDough k w)) (by omega) (Nat.le_of_ble_eq_true rfl) (by omega) (by omega) rfl (Nat.le_of_ble_eq_true rfl) rfl (kI fun r2 h2 n2 e2 => ?_) kN
  obtain ⟨q9, q8, q7⟩ := e2; have q9 := q9.symm; have q8 := q8.symm; have q7 := q7.symm; subst q9; subst q8; subst q7
  refine r_if_eqB (tgt := 20) dX2_pour_5 (by decide) (fun c5 => ?_) (fun c5 => ?_)
  · refine r_iconst (v := nI 0) dX2_pour_20 (by decide) ?_
    refine r_bipush (v := nI 105) dX2_pour_21 (by decide) ?_
    refine g_st (st' := [.int (nI 105), .int (nB (ix p (ρ 0) ∧ ix p2 (ρ 1)))]) (by rw [← nB_f (p := ix p (ρ 0) ∧ ix p2 (ρ 1)) (fun z => c5 z.1)]) ?_
    refine r_callSN (M' := mX1_demand) _ dX2_pour_23 q2154 q2155 rfl (lw_all_tbl q2156) q125 (by exact pl_X1_demand)  ((k_demand (p := ix p (ρ 0) ∧ ix p2 (ρ 1)) (c := 105) rfl (by decide) w0)) (by omega) (Nat.le_of_ble_eq_true rfl) (by omega) (by omega) rfl (Nat.le_of_ble_eq_true rfl) rfl (kV fun h23 n23 e23 => ?_) (fun q h' n' hx => r_out (by intro x hx; cases hx) (by obtain ⟨z1, rfl, rfl, rfl⟩ := hx; exact ⟨by unfold ePo; rw [if_neg z1]; decide, by unfold ePo; rw [if_neg z1]; exact cf_new⟩))
    obtain ⟨e23, q8, q7⟩ := e23; have q8 := q8.symm; have q7 := q7.symm; subst q8; subst q7
    exact absurd e23.1 c5
  · refine r_aload0 dX2_pour_8 ?_
    refine r_iload2 dX2_pour_9 ?_
    refine r_callV (M' := mX2_hasBowl) _ dX2_pour_10 q2521 q2522 q2523 rfl (lw_all_tbl q2524) q126 (by exact pl_X2_hasBowl) gc_X2 kb ((k_hasBowl k w)) (by omega) (Nat.le_of_ble_eq_true rfl) (by omega) (by omega) rfl (Nat.le_of_ble_eq_true rfl) rfl (kI fun r10 h10 n10 e10 => ?_) kN
    obtain ⟨q9, q8, q7⟩ := e10; have q9 := q9.symm; have q8 := q8.symm; have q7 := q7.symm; subst q9; subst q8; subst q7
    refine r_if_eqB (tgt := 20) dX2_pour_13 (by decide) (fun c13 => ?_) (fun c13 => ?_)
    · refine r_iconst (v := nI 0) dX2_pour_20 (by decide) ?_
      refine r_bipush (v := nI 105) dX2_pour_21 (by decide) ?_
      refine g_st (st' := [.int (nI 105), .int (nB (ix p (ρ 0) ∧ ix p2 (ρ 1)))]) (by rw [← nB_f (p := ix p (ρ 0) ∧ ix p2 (ρ 1)) (fun z => c13 z.2)]) ?_
      refine r_callSN (M' := mX1_demand) _ dX2_pour_23 q2154 q2155 rfl (lw_all_tbl q2156) q125 (by exact pl_X1_demand)  ((k_demand (p := ix p (ρ 0) ∧ ix p2 (ρ 1)) (c := 105) rfl (by decide) w0)) (by omega) (Nat.le_of_ble_eq_true rfl) (by omega) (by omega) rfl (Nat.le_of_ble_eq_true rfl) rfl (kV fun h23 n23 e23 => ?_) (fun q h' n' hx => r_out (by intro x hx; cases hx) (by obtain ⟨z1, rfl, rfl, rfl⟩ := hx; exact ⟨by unfold ePo; rw [if_neg z1]; decide, by unfold ePo; rw [if_neg z1]; exact cf_new⟩))
      obtain ⟨e23, q8, q7⟩ := e23; have q8 := q8.symm; have q7 := q7.symm; subst q8; subst q7
      exact absurd e23.2 c13
    · refine r_iconst (v := nI 1) dX2_pour_16 (by decide) ?_
      refine r_goto (tgt := 21) dX2_pour_17 (by decide) ?_
      refine r_bipush (v := nI 105) dX2_pour_21 (by decide) ?_
      refine g_st (st' := [.int (nI 105), .int (nB (ix p (ρ 0) ∧ ix p2 (ρ 1)))]) (by rw [← nB_t (p := ix p (ρ 0) ∧ ix p2 (ρ 1)) ⟨c5, c13⟩]) ?_
      refine r_callSN (M' := mX1_demand) _ dX2_pour_23 q2154 q2155 rfl (lw_all_tbl q2156) q125 (by exact pl_X1_demand)  ((k_demand (p := ix p (ρ 0) ∧ ix p2 (ρ 1)) (c := 105) rfl (by decide) w0)) (by omega) (Nat.le_of_ble_eq_true rfl) (by omega) (by omega) rfl (Nat.le_of_ble_eq_true rfl) rfl (kV fun h23 n23 e23 => ?_) (fun q h' n' hx => r_out (by intro x hx; cases hx) (by obtain ⟨z1, rfl, rfl, rfl⟩ := hx; exact ⟨by unfold ePo; rw [if_neg z1]; decide, by unfold ePo; rw [if_neg z1]; exact cf_new⟩))
      obtain ⟨e23, q8, q7⟩ := e23; have q8 := q8.symm; have q7 := q7.symm; subst q8; subst q7
      obtain ⟨i, i1, rfl, i4⟩ := ix_ex e23.1
      obtain ⟨j, j1, rfl, j4⟩ := ix_ex e23.2
      have ee : ePo ρ (nI i) (nI j) = 0 := by unfold ePo; rw [if_pos e23]
      have mm := main i j i1 j1
      rw [ee] at mm ⊢
      rw [i4, j4]
      exact mm
end
