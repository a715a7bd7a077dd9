/-! the steps: what each command's lambda does with a bakery -/
set_option maxRecDepth 100000
def seE (ρ : Nat → Nat) (so : Nat) (p p2 : Int32) : Nat := if so = 100 then (eAd ρ p p2) else if so = 109 then (eMx ρ p p2) else if so = 98 then (eBo ρ p) else if so = 108 then (eLo ρ p p2) else if so = 115 then (if ix p (ρ 2) then 0 else 1) else if so = 99 then (eSc ρ p) else if so = 112 then (ePo ρ p p2) else if so = 101 then (if ix p (ρ 1) then 0 else 1) else if so = 107 then (eBa ρ p) else if so = 111 then (eOv p) else (if ruI p then 0 else 1)
def seK (so : Nat) : List Nat := if so = 100 then ([97, 115]) else if so = 109 then ([105, 97, 117]) else if so = 98 then ([97, 115]) else if so = 108 then ([97, 115]) else if so = 115 then ([105]) else if so = 99 then ([97, 117]) else if so = 112 then ([105]) else if so = 101 then ([105]) else if so = 107 then ([105, 101, 117]) else if so = 111 then ([97]) else ([97])
def seV (ρ : Nat → Nat) (so : Nat) (p p2 : Int32) : Int32 := if so = 100 then (nI (ρ 0)) else if so = 109 then (nI (sAb ρ (tN p) (tN p2) / Nat.gcd (sAb ρ (tN p) (tN p2)) (sBe ρ (tN p) (tN p2)))) else if so = 98 then (nI (ρ 1)) else if so = 108 then (nI (ρ 2)) else if so = 115 then (nI (ρ (34 + 3 * tN p))) else if so = 99 then (nI (ρ 3)) else if so = 112 then (nI (poD ρ (tN p) (tN p2)).2) else if so = 101 then (nI (ρ (23 + 2 * tN p))) else if so = 107 then (nI (ρ (23 + 2 * tN p))) else if so = 111 then (nI (ρ 5)) else (nI (ρ 4))
def seR (ρ : Nat → Nat) (so : Nat) (p p2 : Int32) : Nat → Nat := if so = 100 then (mkD ρ (tN p) (tN p2)) else if so = 109 then (mxD ρ (tN p) (tN p2)) else if so = 98 then (mkB ρ (tN p)) else if so = 108 then (mkL ρ (tN p) (tN p2)) else if so = 115 then (slL ρ (tN p)) else if so = 99 then (fup ρ 3 (tN p)) else if so = 112 then ((poD ρ (tN p) (tN p2)).1) else if so = 101 then (fup ρ (23 + 2 * tN p) 0) else if so = 107 then (bkD ρ (tN p)) else if so = 111 then (fup ρ 5 (tN p)) else (fup ρ 4 (tN p))
def seA (ρ : Nat → Nat) (α : Nat → Int64) (so : Nat) (p p2 : Int32) : Nat → Int64 := if so = 100 then (α) else if so = 109 then (α) else if so = 98 then (α) else if so = 108 then (α) else if so = 115 then (fup α 8 (α 8 + lN (ρ (34 + 3 * tN p)))) else if so = 99 then (α) else if so = 112 then (fup (fup (fup α 6 (α 6 + lN (crm ρ (tN p)))) 9 (α 9 + erp ρ (tN p))) 7 (α 7 + lN (poD ρ (tN p) (tN p2)).2)) else if so = 101 then (fup α 8 (α 8 + lN (ρ (23 + 2 * tN p)))) else if so = 107 then (α) else if so = 111 then (α) else (α)
/-- what a step has done -/
def muS (K : g_K) (W : c_W) (lo b : Nat) (h : g_P) (n e : Nat) (res : Int32) (ρ : Nat → Nat) (α : Nat → Int64) (r : Int32) (h' : g_P) (n' : Nat) : Prop := e = 0 ∧ r = res ∧ bk K W lo n' b ρ α h' ∧ (∀ q : Nat, q < lo → h' q = h q) ∧ n ≤ n' ∧ n' ≤ n + 23
abbrev xStp : MethodName := ⟨"DoughLedger$Step", "apply", "(LDoughLedger$Bakery;)I"⟩
theorem pl_xStp : g_pl xStp 1 := ⟨by decide, by decide, by decide +kernel⟩
section
variable {K : g_K} {W : c_W} {A : Nat → Nat} {lo b n u st : Nat} {ρ : Nat → Nat} {α : Nat → Int64} {h : g_P} {p p2 : Int32}
theorem k_lam5 (w0 : cOK K W) (wl : lOK K A) (k : bk K W lo n b ρ α h) (w : wB u ρ) (hu : u < 20000) : g_Met K mX1_lambda_addDough_4 150 26 118 [.int p, .int p2, .ref b] h n (gI (muS K W lo b h n (eAd ρ p p2) (nI (ρ 0)) (mkD ρ (tN p) (tN p2)) (α))) (muX W [97, 115] h n (eAd ρ p p2)) := by
  obtain ⟨-, -, -, t9, lb9, eb9, ll9, el9, kb, -⟩ := id k
  refine g_Met.of (M := mX1_lambda_addDough_4) (L := [some (.int p), some (.int p2), some (.ref b)]) (by decide +kernel) (Nat.le_of_ble_eq_true rfl) rfl ?_
  refine r_aload2 dX1_lambda_addDough_4_0 ?_
  refine r_iload0 dX1_lambda_addDough_4_1 ?_
  refine r_iload1 dX1_lambda_addDough_4_2 ?_
  refine r_callV (M' := mX2_addDough) _ dX1_lambda_addDough_4_3 q2147 q2148 q2149 rfl (lw_all_tbl q2150) q126 (by exact pl_X2_addDough) gc_X2 kb ((k_addDough2 w0 k w)) (by omega) (Nat.le_of_ble_eq_true rfl) (by omega) (by omega) rfl (Nat.le_of_ble_eq_true rfl) rfl (kI fun r3 h3 n3 e3 => ?_) (fun q h' n' hx => r_out (by intro x hx; cases hx) hx)
  exact r_ireturn dX1_lambda_addDough_4_6 rfl rfl (⟨e3.1, e3.2.1, e3.2.2.1, e3.2.2.2.1, e3.2.2.2.2.1, Nat.le_trans e3.2.2.2.2.2 (by omega)⟩)
theorem k_st5 (w0 : cOK K W) (wl : lOK K A) (k : bk K W lo n b ρ α h) (w : wB u ρ) (hu : u < 20000) (ho : h st = some (g_la 5 [.int p, .int p2])) : g_LC K xStp st [.ref b] 150 26 118 h n (muS K W lo b h n (eAd ρ p p2) (nI (ρ 0)) (mkD ρ (tN p) (tN p2)) (α)) (muX W [97, 115] h n (eAd ρ p p2)) := by
  intro M d bc bs P X pc L st st0 count index hd hlink hd1 hc hsl hL hw hst kn kx
  exact r_lamI (z := (l_x5, 3, 89, l_s5, k_L K 5, none)) (kk := 5) (M' := mX1_lambda_addDough_4) (x := xStp) (vals := [.int p, .int p2]) [.ref b] l_F5 (fw_run2 l_G5_0 rfl l_G5_1 rfl) l_q5 l_r5 (l_m5 wl) rfl pn_DoughLedger (by decide) hd hlink q2316 q2315 rfl ⟨rfl, rfl, l_S5⟩ q2145 ⟨rfl, rfl, l_D5⟩ (lw_all_tbl q2146) q125 pl_xStp pl_X1_lambda_addDough_4 ho (k_lam5 w0 wl k w hu) hd1 (Nat.le_of_ble_eq_true rfl) hc hsl hL hw hst kn kx
theorem k_lam6 (w0 : cOK K W) (wl : lOK K A) (k : bk K W lo n b ρ α h) (w : wB u ρ) (hu : u < 20000) : g_Met K mX1_lambda_mix_5 150 26 118 [.int p, .int p2, .ref b] h n (gI (muS K W lo b h n (eMx ρ p p2) (nI (sAb ρ (tN p) (tN p2) / Nat.gcd (sAb ρ (tN p) (tN p2)) (sBe ρ (tN p) (tN p2)))) (mxD ρ (tN p) (tN p2)) (α))) (muX W [105, 97, 117] h n (eMx ρ p p2)) := by
  obtain ⟨-, -, -, t9, lb9, eb9, ll9, el9, kb, -⟩ := id k
  refine g_Met.of (M := mX1_lambda_mix_5) (L := [some (.int p), some (.int p2), some (.ref b)]) (by decide +kernel) (Nat.le_of_ble_eq_true rfl) rfl ?_
  refine r_aload2 dX1_lambda_mix_5_0 ?_
  refine r_iload0 dX1_lambda_mix_5_1 ?_
  refine r_iload1 dX1_lambda_mix_5_2 ?_
  refine r_callV (M' := mX2_mix) _ dX1_lambda_mix_5_3 q2395 q2396 q2397 rfl (lw_all_tbl q2398) q126 (by exact pl_X2_mix) gc_X2 kb ((k_mix2 w0 k w)) (by omega) (Nat.le_of_ble_eq_true rfl) (by omega) (by omega) rfl (Nat.le_of_ble_eq_true rfl) rfl (kI fun r3 h3 n3 e3 => ?_) (fun q h' n' hx => r_out (by intro x hx; cases hx) hx)
  exact r_ireturn dX1_lambda_mix_5_6 rfl rfl (⟨e3.1, e3.2.1, e3.2.2.1, e3.2.2.2.1, e3.2.2.2.2.1, Nat.le_trans e3.2.2.2.2.2 (by omega)⟩)
theorem k_st6 (w0 : cOK K W) (wl : lOK K A) (k : bk K W lo n b ρ α h) (w : wB u ρ) (hu : u < 20000) (ho : h st = some (g_la 6 [.int p, .int p2])) : g_LC K xStp st [.ref b] 150 26 118 h n (muS K W lo b h n (eMx ρ p p2) (nI (sAb ρ (tN p) (tN p2) / Nat.gcd (sAb ρ (tN p) (tN p2)) (sBe ρ (tN p) (tN p2)))) (mxD ρ (tN p) (tN p2)) (α)) (muX W [105, 97, 117] h n (eMx ρ p p2)) := by
  intro M d bc bs P X pc L st st0 count index hd hlink hd1 hc hsl hL hw hst kn kx
  exact r_lamI (z := (l_x6, 3, 96, l_s6, k_L K 6, none)) (kk := 6) (M' := mX1_lambda_mix_5) (x := xStp) (vals := [.int p, .int p2]) [.ref b] l_F6 (fw_run2 l_G6_0 rfl l_G6_1 rfl) l_q6 l_r6 (l_m6 wl) rfl pn_DoughLedger (by decide) hd hlink q2316 q2315 rfl ⟨rfl, rfl, l_S6⟩ q2393 ⟨rfl, rfl, l_D6⟩ (lw_all_tbl q2394) q125 pl_xStp pl_X1_lambda_mix_5 ho (k_lam6 w0 wl k w hu) hd1 (Nat.le_of_ble_eq_true rfl) hc hsl hL hw hst kn kx
theorem k_lam7 (w0 : cOK K W) (wl : lOK K A) (k : bk K W lo n b ρ α h) (w : wB u ρ) (hu : u < 20000) : g_Met K mX1_lambda_addBowl_6 150 26 118 [.int p, .ref b] h n (gI (muS K W lo b h n (eBo ρ p) (nI (ρ 1)) (mkB ρ (tN p)) (α))) (muX W [97, 115] h n (eBo ρ p)) := by
  obtain ⟨-, -, -, t9, lb9, eb9, ll9, el9, kb, -⟩ := id k
  refine g_Met.of (M := mX1_lambda_addBowl_6) (L := [some (.int p), some (.ref b)]) (by decide +kernel) (Nat.le_of_ble_eq_true rfl) rfl ?_
  refine r_aload1 dX1_lambda_addBowl_6_0 ?_
  refine r_iload0 dX1_lambda_addBowl_6_1 ?_
  refine r_callV (M' := mX2_addBowl) _ dX1_lambda_addBowl_6_2 q2421 q2422 q2423 rfl (lw_all_tbl q2424) q126 (by exact pl_X2_addBowl) gc_X2 kb ((k_addBowl2 w0 k w)) (by omega) (Nat.le_of_ble_eq_true rfl) (by omega) (by omega) rfl (Nat.le_of_ble_eq_true rfl) rfl (kI fun r2 h2 n2 e2 => ?_) (fun q h' n' hx => r_out (by intro x hx; cases hx) hx)
  exact r_ireturn dX1_lambda_addBowl_6_5 rfl rfl (⟨e2.1, e2.2.1, e2.2.2.1, e2.2.2.2.1, e2.2.2.2.2.1, Nat.le_trans e2.2.2.2.2.2 (by omega)⟩)
theorem k_st7 (w0 : cOK K W) (wl : lOK K A) (k : bk K W lo n b ρ α h) (w : wB u ρ) (hu : u < 20000) (ho : h st = some (g_la 7 [.int p])) : g_LC K xStp st [.ref b] 150 26 118 h n (muS K W lo b h n (eBo ρ p) (nI (ρ 1)) (mkB ρ (tN p)) (α)) (muX W [97, 115] h n (eBo ρ p)) := by
  intro M d bc bs P X pc L st st0 count index hd hlink hd1 hc hsl hL hw hst kn kx
  exact r_lamI (z := (l_x7, 2, 97, l_s7, k_L K 7, none)) (kk := 7) (M' := mX1_lambda_addBowl_6) (x := xStp) (vals := [.int p]) [.ref b] l_F7 (fw_run1 l_G7_0 rfl) l_q7 l_r7 (l_m7 wl) rfl pn_DoughLedger (by decide) hd hlink q2316 q2315 rfl ⟨rfl, rfl, l_S7⟩ q2419 ⟨rfl, rfl, l_D7⟩ (lw_all_tbl q2420) q125 pl_xStp pl_X1_lambda_addBowl_6 ho (k_lam7 w0 wl k w hu) hd1 (Nat.le_of_ble_eq_true rfl) hc hsl hL hw hst kn kx
theorem k_lam8 (w0 : cOK K W) (wl : lOK K A) (k : bk K W lo n b ρ α h) (w : wB u ρ) (hu : u < 20000) : g_Met K mX1_lambda_addLoaf_7 150 26 118 [.int p, .int p2, .ref b] h n (gI (muS K W lo b h n (eLo ρ p p2) (nI (ρ 2)) (mkL ρ (tN p) (tN p2)) (α))) (muX W [97, 115] h n (eLo ρ p p2)) := by
  obtain ⟨-, -, -, t9, lb9, eb9, ll9, el9, kb, -⟩ := id k
  refine g_Met.of (M := mX1_lambda_addLoaf_7) (L := [some (.int p), some (.int p2), some (.ref b)]) (by decide +kernel) (Nat.le_of_ble_eq_true rfl) rfl ?_
  refine r_aload2 dX1_lambda_addLoaf_7_0 ?_
  refine r_iload0 dX1_lambda_addLoaf_7_1 ?_
  refine r_iload1 dX1_lambda_addLoaf_7_2 ?_
  refine r_callV (M' := mX2_addLoaf) _ dX1_lambda_addLoaf_7_3 q2434 q2435 q2436 rfl (lw_all_tbl q2437) q126 (by exact pl_X2_addLoaf) gc_X2 kb ((k_addLoaf2 w0 k w)) (by omega) (Nat.le_of_ble_eq_true rfl) (by omega) (by omega) rfl (Nat.le_of_ble_eq_true rfl) rfl (kI fun r3 h3 n3 e3 => ?_) (fun q h' n' hx => r_out (by intro x hx; cases hx) hx)
  exact r_ireturn dX1_lambda_addLoaf_7_6 rfl rfl (⟨e3.1, e3.2.1, e3.2.2.1, e3.2.2.2.1, e3.2.2.2.2.1, Nat.le_trans e3.2.2.2.2.2 (by omega)⟩)
theorem k_st8 (w0 : cOK K W) (wl : lOK K A) (k : bk K W lo n b ρ α h) (w : wB u ρ) (hu : u < 20000) (ho : h st = some (g_la 8 [.int p, .int p2])) : g_LC K xStp st [.ref b] 150 26 118 h n (muS K W lo b h n (eLo ρ p p2) (nI (ρ 2)) (mkL ρ (tN p) (tN p2)) (α)) (muX W [97, 115] h n (eLo ρ p p2)) := by
  intro M d bc bs P X pc L st st0 count index hd hlink hd1 hc hsl hL hw hst kn kx
  exact r_lamI (z := (l_x8, 3, 100, l_s8, k_L K 8, none)) (kk := 8) (M' := mX1_lambda_addLoaf_7) (x := xStp) (vals := [.int p, .int p2]) [.ref b] l_F8 (fw_run2 l_G8_0 rfl l_G8_1 rfl) l_q8 l_r8 (l_m8 wl) rfl pn_DoughLedger (by decide) hd hlink q2316 q2315 rfl ⟨rfl, rfl, l_S8⟩ q2432 ⟨rfl, rfl, l_D8⟩ (lw_all_tbl q2433) q125 pl_xStp pl_X1_lambda_addLoaf_7 ho (k_lam8 w0 wl k w hu) hd1 (Nat.le_of_ble_eq_true rfl) hc hsl hL hw hst kn kx
theorem k_lam9 (w0 : cOK K W) (wl : lOK K A) (k : bk K W lo n b ρ α h) (w : wB u ρ) (hu : u < 20000) : g_Met K mX1_lambda_sellLoaf_8 150 26 118 [.int p, .ref b] h n (gI (muS K W lo b h n (if ix p (ρ 2) then 0 else 1) (nI (ρ (34 + 3 * tN p))) (slL ρ (tN p)) (fup α 8 (α 8 + lN (ρ (34 + 3 * tN p)))))) (muX W [105] h n (if ix p (ρ 2) then 0 else 1)) := by
  obtain ⟨-, -, -, t9, lb9, eb9, ll9, el9, kb, -⟩ := id k
  refine g_Met.of (M := mX1_lambda_sellLoaf_8) (L := [some (.int p), some (.ref b)]) (by decide +kernel) (Nat.le_of_ble_eq_true rfl) rfl ?_
  refine r_aload1 dX1_lambda_sellLoaf_8_0 ?_
  refine r_iload0 dX1_lambda_sellLoaf_8_1 ?_
  refine r_callV (M' := mX2_sellLoaf) _ dX1_lambda_sellLoaf_8_2 q2448 q2449 q2450 rfl (lw_all_tbl q2451) q126 (by exact pl_X2_sellLoaf) gc_X2 kb ((k_sellLoaf2 w0 k w)) (by omega) (Nat.le_of_ble_eq_true rfl) (by omega) (by omega) rfl (Nat.le_of_ble_eq_true rfl) rfl (kI fun r2 h2 n2 e2 => ?_) (fun q h' n' hx => r_out (by intro x hx; cases hx) hx)
  exact r_ireturn dX1_lambda_sellLoaf_8_5 rfl rfl (⟨e2.1, e2.2.1, e2.2.2.1, e2.2.2.2.1, e2.2.2.2.2.1, Nat.le_trans e2.2.2.2.2.2 (by omega)⟩)
theorem k_st9 (w0 : cOK K W) (wl : lOK K A) (k : bk K W lo n b ρ α h) (w : wB u ρ) (hu : u < 20000) (ho : h st = some (g_la 9 [.int p])) : g_LC K xStp st [.ref b] 150 26 118 h n (muS K W lo b h n (if ix p (ρ 2) then 0 else 1) (nI (ρ (34 + 3 * tN p))) (slL ρ (tN p)) (fup α 8 (α 8 + lN (ρ (34 + 3 * tN p))))) (muX W [105] h n (if ix p (ρ 2) then 0 else 1)) := by
  intro M d bc bs P X pc L st st0 count index hd hlink hd1 hc hsl hL hw hst kn kx
  exact r_lamI (z := (l_x9, 2, 101, l_s9, k_L K 9, none)) (kk := 9) (M' := mX1_lambda_sellLoaf_8) (x := xStp) (vals := [.int p]) [.ref b] l_F9 (fw_run1 l_G9_0 rfl) l_q9 l_r9 (l_m9 wl) rfl pn_DoughLedger (by decide) hd hlink q2316 q2315 rfl ⟨rfl, rfl, l_S9⟩ q2446 ⟨rfl, rfl, l_D9⟩ (lw_all_tbl q2447) q125 pl_xStp pl_X1_lambda_sellLoaf_8 ho (k_lam9 w0 wl k w hu) hd1 (Nat.le_of_ble_eq_true rfl) hc hsl hL hw hst kn kx
theorem k_lam10 (w0 : cOK K W) (wl : lOK K A) (k : bk K W lo n b ρ α h) (w : wB u ρ) (hu : u < 20000) : g_Met K mX1_lambda_setScale_9 150 26 118 [.int p, .ref b] h n (gI (muS K W lo b h n (eSc ρ p) (nI (ρ 3)) (fup ρ 3 (tN p)) (α))) (muX W [97, 117] h n (eSc ρ p)) := by
  obtain ⟨-, -, -, t9, lb9, eb9, ll9, el9, kb, -⟩ := id k
  refine g_Met.of (M := mX1_lambda_setScale_9) (L := [some (.int p), some (.ref b)]) (by decide +kernel) (Nat.le_of_ble_eq_true rfl) rfl ?_
  refine r_aload1 dX1_lambda_setScale_9_0 ?_
  refine r_iload0 dX1_lambda_setScale_9_1 ?_
  refine r_callV (M' := mX2_setScale) _ dX1_lambda_setScale_9_2 q2488 q2489 q2490 rfl (lw_all_tbl q2491) q126 (by exact pl_X2_setScale) gc_X2 kb ((k_setScale2 w0 k w)) (by omega) (Nat.le_of_ble_eq_true rfl) (by omega) (by omega) rfl (Nat.le_of_ble_eq_true rfl) rfl (kI fun r2 h2 n2 e2 => ?_) (fun q h' n' hx => r_out (by intro x hx; cases hx) hx)
  exact r_ireturn dX1_lambda_setScale_9_5 rfl rfl (⟨e2.1, e2.2.1, e2.2.2.1, e2.2.2.2.1, e2.2.2.2.2.1, Nat.le_trans e2.2.2.2.2.2 (by omega)⟩)
theorem k_st10 (w0 : cOK K W) (wl : lOK K A) (k : bk K W lo n b ρ α h) (w : wB u ρ) (hu : u < 20000) (ho : h st = some (g_la 10 [.int p])) : g_LC K xStp st [.ref b] 150 26 118 h n (muS K W lo b h n (eSc ρ p) (nI (ρ 3)) (fup ρ 3 (tN p)) (α)) (muX W [97, 117] h n (eSc ρ p)) := by
  intro M d bc bs P X pc L st st0 count index hd hlink hd1 hc hsl hL hw hst kn kx
  exact r_lamI (z := (l_x10, 2, 102, l_s10, k_L K 10, none)) (kk := 10) (M' := mX1_lambda_setScale_9) (x := xStp) (vals := [.int p]) [.ref b] l_F10 (fw_run1 l_G10_0 rfl) l_q10 l_r10 (l_m10 wl) rfl pn_DoughLedger (by decide) hd hlink q2316 q2315 rfl ⟨rfl, rfl, l_S10⟩ q2486 ⟨rfl, rfl, l_D10⟩ (lw_all_tbl q2487) q125 pl_xStp pl_X1_lambda_setScale_9 ho (k_lam10 w0 wl k w hu) hd1 (Nat.le_of_ble_eq_true rfl) hc hsl hL hw hst kn kx
theorem k_lam11 (w0 : cOK K W) (wl : lOK K A) (k : bk K W lo n b ρ α h) (w : wB u ρ) (hu : u < 20000) : g_Met K mX1_lambda_setRounding_10 150 26 118 [.int p, .ref b] h n (gI (muS K W lo b h n (if ruI p then 0 else 1) (nI (ρ 4)) (fup ρ 4 (tN p)) (α))) (muX W [97] h n (if ruI p then 0 else 1)) := by
  obtain ⟨-, -, -, t9, lb9, eb9, ll9, el9, kb, -⟩ := id k
  refine g_Met.of (M := mX1_lambda_setRounding_10) (L := [some (.int p), some (.ref b)]) (by decide +kernel) (Nat.le_of_ble_eq_true rfl) rfl ?_
  refine r_aload1 dX1_lambda_setRounding_10_0 ?_
  refine r_iload0 dX1_lambda_setRounding_10_1 ?_
  refine r_callV (M' := mX2_setRounding) _ dX1_lambda_setRounding_10_2 q2501 q2502 q2503 rfl (lw_all_tbl q2504) q126 (by exact pl_X2_setRounding) gc_X2 kb ((k_setRounding2 w0 k w)) (by omega) (Nat.le_of_ble_eq_true rfl) (by omega) (by omega) rfl (Nat.le_of_ble_eq_true rfl) rfl (kI fun r2 h2 n2 e2 => ?_) (fun q h' n' hx => r_out (by intro x hx; cases hx) hx)
  exact r_ireturn dX1_lambda_setRounding_10_5 rfl rfl (⟨e2.1, e2.2.1, e2.2.2.1, e2.2.2.2.1, e2.2.2.2.2.1, Nat.le_trans e2.2.2.2.2.2 (by omega)⟩)
theorem k_st11 (w0 : cOK K W) (wl : lOK K A) (k : bk K W lo n b ρ α h) (w : wB u ρ) (hu : u < 20000) (ho : h st = some (g_la 11 [.int p])) : g_LC K xStp st [.ref b] 150 26 118 h n (muS K W lo b h n (if ruI p then 0 else 1) (nI (ρ 4)) (fup ρ 4 (tN p)) (α)) (muX W [97] h n (if ruI p then 0 else 1)) := by
  intro M d bc bs P X pc L st st0 count index hd hlink hd1 hc hsl hL hw hst kn kx
  exact r_lamI (z := (l_x11, 2, 103, l_s11, k_L K 11, none)) (kk := 11) (M' := mX1_lambda_setRounding_10) (x := xStp) (vals := [.int p]) [.ref b] l_F11 (fw_run1 l_G11_0 rfl) l_q11 l_r11 (l_m11 wl) rfl pn_DoughLedger (by decide) hd hlink q2316 q2315 rfl ⟨rfl, rfl, l_S11⟩ q2499 ⟨rfl, rfl, l_D11⟩ (lw_all_tbl q2500) q125 pl_xStp pl_X1_lambda_setRounding_10 ho (k_lam11 w0 wl k w hu) hd1 (Nat.le_of_ble_eq_true rfl) hc hsl hL hw hst kn kx
theorem k_lam12 (w0 : cOK K W) (wl : lOK K A) (k : bk K W lo n b ρ α h) (w : wB u ρ) (hu : u < 20000) : g_Met K mX1_lambda_pour_11 150 26 118 [.int p, .int p2, .ref b] h n (gI (muS K W lo b h n (ePo ρ p p2) (nI (poD ρ (tN p) (tN p2)).2) ((poD ρ (tN p) (tN p2)).1) (fup (fup (fup α 6 (α 6 + lN (crm ρ (tN p)))) 9 (α 9 + erp ρ (tN p))) 7 (α 7 + lN (poD ρ (tN p) (tN p2)).2)))) (muX W [105] h n (ePo ρ p p2)) := by
  obtain ⟨-, -, -, t9, lb9, eb9, ll9, el9, kb, -⟩ := id k
  refine g_Met.of (M := mX1_lambda_pour_11) (L := [some (.int p), some (.int p2), some (.ref b)]) (by decide +kernel) (Nat.le_of_ble_eq_true rfl) rfl ?_
  refine r_aload2 dX1_lambda_pour_11_0 ?_
  refine r_iload0 dX1_lambda_pour_11_1 ?_
  refine r_iload1 dX1_lambda_pour_11_2 ?_
  refine r_callV (M' := mX2_pour) _ dX1_lambda_pour_11_3 q2517 q2518 q2519 rfl (lw_all_tbl q2520) q126 (by exact pl_X2_pour) gc_X2 kb ((k_pour2 w0 wl k w)) (by omega) (Nat.le_of_ble_eq_true rfl) (by omega) (by omega) rfl (Nat.le_of_ble_eq_true rfl) rfl (kI fun r3 h3 n3 e3 => ?_) (fun q h' n' hx => r_out (by intro x hx; cases hx) hx)
  exact r_ireturn dX1_lambda_pour_11_6 rfl rfl (⟨e3.1, e3.2.1, e3.2.2.1, e3.2.2.2.1, e3.2.2.2.2.1, Nat.le_trans e3.2.2.2.2.2 (by omega)⟩)
theorem k_st12 (w0 : cOK K W) (wl : lOK K A) (k : bk K W lo n b ρ α h) (w : wB u ρ) (hu : u < 20000) (ho : h st = some (g_la 12 [.int p, .int p2])) : g_LC K xStp st [.ref b] 150 26 118 h n (muS K W lo b h n (ePo ρ p p2) (nI (poD ρ (tN p) (tN p2)).2) ((poD ρ (tN p) (tN p2)).1) (fup (fup (fup α 6 (α 6 + lN (crm ρ (tN p)))) 9 (α 9 + erp ρ (tN p))) 7 (α 7 + lN (poD ρ (tN p) (tN p2)).2))) (muX W [105] h n (ePo ρ p p2)) := by
  intro M d bc bs P X pc L st st0 count index hd hlink hd1 hc hsl hL hw hst kn kx
  exact r_lamI (z := (l_x12, 3, 106, l_s12, k_L K 12, none)) (kk := 12) (M' := mX1_lambda_pour_11) (x := xStp) (vals := [.int p, .int p2]) [.ref b] l_F12 (fw_run2 l_G12_0 rfl l_G12_1 rfl) l_q12 l_r12 (l_m12 wl) rfl pn_DoughLedger (by decide) hd hlink q2316 q2315 rfl ⟨rfl, rfl, l_S12⟩ q2515 ⟨rfl, rfl, l_D12⟩ (lw_all_tbl q2516) q125 pl_xStp pl_X1_lambda_pour_11 ho (k_lam12 w0 wl k w hu) hd1 (Nat.le_of_ble_eq_true rfl) hc hsl hL hw hst kn kx
theorem k_lam13 (w0 : cOK K W) (wl : lOK K A) (k : bk K W lo n b ρ α h) (w : wB u ρ) (hu : u < 20000) : g_Met K mX1_lambda_empty_12 150 26 118 [.int p, .ref b] h n (gI (muS K W lo b h n (if ix p (ρ 1) then 0 else 1) (nI (ρ (23 + 2 * tN p))) (fup ρ (23 + 2 * tN p) 0) (fup α 8 (α 8 + lN (ρ (23 + 2 * tN p)))))) (muX W [105] h n (if ix p (ρ 1) then 0 else 1)) := by
  obtain ⟨-, -, -, t9, lb9, eb9, ll9, el9, kb, -⟩ := id k
  refine g_Met.of (M := mX1_lambda_empty_12) (L := [some (.int p), some (.ref b)]) (by decide +kernel) (Nat.le_of_ble_eq_true rfl) rfl ?_
  refine r_aload1 dX1_lambda_empty_12_0 ?_
  refine r_iload0 dX1_lambda_empty_12_1 ?_
  refine r_callV (M' := mX2_empty) _ dX1_lambda_empty_12_2 q2544 q2545 q2546 rfl (lw_all_tbl q2547) q126 (by exact pl_X2_empty) gc_X2 kb ((k_empty2 w0 k w)) (by omega) (Nat.le_of_ble_eq_true rfl) (by omega) (by omega) rfl (Nat.le_of_ble_eq_true rfl) rfl (kI fun r2 h2 n2 e2 => ?_) (fun q h' n' hx => r_out (by intro x hx; cases hx) hx)
  exact r_ireturn dX1_lambda_empty_12_5 rfl rfl (⟨e2.1, e2.2.1, e2.2.2.1, e2.2.2.2.1, e2.2.2.2.2.1, Nat.le_trans e2.2.2.2.2.2 (by omega)⟩)
theorem k_st13 (w0 : cOK K W) (wl : lOK K A) (k : bk K W lo n b ρ α h) (w : wB u ρ) (hu : u < 20000) (ho : h st = some (g_la 13 [.int p])) : g_LC K xStp st [.ref b] 150 26 118 h n (muS K W lo b h n (if ix p (ρ 1) then 0 else 1) (nI (ρ (23 + 2 * tN p))) (fup ρ (23 + 2 * tN p) 0) (fup α 8 (α 8 + lN (ρ (23 + 2 * tN p))))) (muX W [105] h n (if ix p (ρ 1) then 0 else 1)) := by
  intro M d bc bs P X pc L st st0 count index hd hlink hd1 hc hsl hL hw hst kn kx
  exact r_lamI (z := (l_x13, 2, 107, l_s13, k_L K 13, none)) (kk := 13) (M' := mX1_lambda_empty_12) (x := xStp) (vals := [.int p]) [.ref b] l_F13 (fw_run1 l_G13_0 rfl) l_q13 l_r13 (l_m13 wl) rfl pn_DoughLedger (by decide) hd hlink q2316 q2315 rfl ⟨rfl, rfl, l_S13⟩ q2542 ⟨rfl, rfl, l_D13⟩ (lw_all_tbl q2543) q125 pl_xStp pl_X1_lambda_empty_12 ho (k_lam13 w0 wl k w hu) hd1 (Nat.le_of_ble_eq_true rfl) hc hsl hL hw hst kn kx
theorem k_lam14 (w0 : cOK K W) (wl : lOK K A) (k : bk K W lo n b ρ α h) (w : wB u ρ) (hu : u < 20000) : g_Met K mX1_lambda_bake_13 150 26 118 [.int p, .ref b] h n (gI (muS K W lo b h n (eBa ρ p) (nI (ρ (23 + 2 * tN p))) (bkD ρ (tN p)) (α))) (muX W [105, 101, 117] h n (eBa ρ p)) := by
  obtain ⟨-, -, -, t9, lb9, eb9, ll9, el9, kb, -⟩ := id k
  refine g_Met.of (M := mX1_lambda_bake_13) (L := [some (.int p), some (.ref b)]) (by decide +kernel) (Nat.le_of_ble_eq_true rfl) rfl ?_
  refine r_aload1 dX1_lambda_bake_13_0 ?_
  refine r_iload0 dX1_lambda_bake_13_1 ?_
  refine r_callV (M' := mX2_bake) _ dX1_lambda_bake_13_2 q2558 q2559 q2560 rfl (lw_all_tbl q2561) q126 (by exact pl_X2_bake) gc_X2 kb ((k_bake2 w0 k w hu)) (by omega) (Nat.le_of_ble_eq_true rfl) (by omega) (by omega) rfl (Nat.le_of_ble_eq_true rfl) rfl (kI fun r2 h2 n2 e2 => ?_) (fun q h' n' hx => r_out (by intro x hx; cases hx) hx)
  exact r_ireturn dX1_lambda_bake_13_5 rfl rfl (⟨e2.1, e2.2.1, e2.2.2.1, e2.2.2.2.1, e2.2.2.2.2.1, Nat.le_trans e2.2.2.2.2.2 (by omega)⟩)
theorem k_st14 (w0 : cOK K W) (wl : lOK K A) (k : bk K W lo n b ρ α h) (w : wB u ρ) (hu : u < 20000) (ho : h st = some (g_la 14 [.int p])) : g_LC K xStp st [.ref b] 150 26 118 h n (muS K W lo b h n (eBa ρ p) (nI (ρ (23 + 2 * tN p))) (bkD ρ (tN p)) (α)) (muX W [105, 101, 117] h n (eBa ρ p)) := by
  intro M d bc bs P X pc L st st0 count index hd hlink hd1 hc hsl hL hw hst kn kx
  exact r_lamI (z := (l_x14, 2, 108, l_s14, k_L K 14, none)) (kk := 14) (M' := mX1_lambda_bake_13) (x := xStp) (vals := [.int p]) [.ref b] l_F14 (fw_run1 l_G14_0 rfl) l_q14 l_r14 (l_m14 wl) rfl pn_DoughLedger (by decide) hd hlink q2316 q2315 rfl ⟨rfl, rfl, l_S14⟩ q2556 ⟨rfl, rfl, l_D14⟩ (lw_all_tbl q2557) q125 pl_xStp pl_X1_lambda_bake_13 ho (k_lam14 w0 wl k w hu) hd1 (Nat.le_of_ble_eq_true rfl) hc hsl hL hw hst kn kx
theorem k_lam15 (w0 : cOK K W) (wl : lOK K A) (k : bk K W lo n b ρ α h) (w : wB u ρ) (hu : u < 20000) : g_Met K mX1_lambda_setOvens_14 150 26 118 [.int p, .ref b] h n (gI (muS K W lo b h n (eOv p) (nI (ρ 5)) (fup ρ 5 (tN p)) (α))) (muX W [97] h n (eOv p)) := by
  obtain ⟨-, -, -, t9, lb9, eb9, ll9, el9, kb, -⟩ := id k
  refine g_Met.of (M := mX1_lambda_setOvens_14) (L := [some (.int p), some (.ref b)]) (by decide +kernel) (Nat.le_of_ble_eq_true rfl) rfl ?_
  refine r_aload1 dX1_lambda_setOvens_14_0 ?_
  refine r_iload0 dX1_lambda_setOvens_14_1 ?_
  refine r_callV (M' := mX2_setOvens) _ dX1_lambda_setOvens_14_2 q2571 q2572 q2573 rfl (lw_all_tbl q2574) q126 (by exact pl_X2_setOvens) gc_X2 kb ((k_setOvens2 w0 k w)) (by omega) (Nat.le_of_ble_eq_true rfl) (by omega) (by omega) rfl (Nat.le_of_ble_eq_true rfl) rfl (kI fun r2 h2 n2 e2 => ?_) (fun q h' n' hx => r_out (by intro x hx; cases hx) hx)
  exact r_ireturn dX1_lambda_setOvens_14_5 rfl rfl (⟨e2.1, e2.2.1, e2.2.2.1, e2.2.2.2.1, e2.2.2.2.2.1, Nat.le_trans e2.2.2.2.2.2 (by omega)⟩)
theorem k_st15 (w0 : cOK K W) (wl : lOK K A) (k : bk K W lo n b ρ α h) (w : wB u ρ) (hu : u < 20000) (ho : h st = some (g_la 15 [.int p])) : g_LC K xStp st [.ref b] 150 26 118 h n (muS K W lo b h n (eOv p) (nI (ρ 5)) (fup ρ 5 (tN p)) (α)) (muX W [97] h n (eOv p)) := by
  intro M d bc bs P X pc L st st0 count index hd hlink hd1 hc hsl hL hw hst kn kx
  exact r_lamI (z := (l_x15, 2, 109, l_s15, k_L K 15, none)) (kk := 15) (M' := mX1_lambda_setOvens_14) (x := xStp) (vals := [.int p]) [.ref b] l_F15 (fw_run1 l_G15_0 rfl) l_q15 l_r15 (l_m15 wl) rfl pn_DoughLedger (by decide) hd hlink q2316 q2315 rfl ⟨rfl, rfl, l_S15⟩ q2569 ⟨rfl, rfl, l_D15⟩ (lw_all_tbl q2570) q125 pl_xStp pl_X1_lambda_setOvens_14 ho (k_lam15 w0 wl k w hu) hd1 (Nat.le_of_ble_eq_true rfl) hc hsl hL hw hst kn kx
theorem k_lam16 (w0 : cOK K W) (wl : lOK K A) (k : bk K W lo n b ρ α h) (w : wB u ρ) (hu : u < 20000) : g_Met K mX15_lambda_command_0 150 26 118 [.int p, .int p2, .ref b] h n (gI (muS K W lo b h n (eAd ρ p p2) (nI (ρ 0)) (mkD ρ (tN p) (tN p2)) (α))) (muX W [97, 115] h n (eAd ρ p p2)) := by
  obtain ⟨-, -, -, t9, lb9, eb9, ll9, el9, kb, -⟩ := id k
  refine g_Met.of (M := mX15_lambda_command_0) (L := [some (.int p), some (.int p2), some (.ref b)]) (by decide +kernel) (Nat.le_of_ble_eq_true rfl) rfl ?_
  refine r_aload2 dX15_lambda_command_0_0 ?_
  refine r_iload0 dX15_lambda_command_0_1 ?_
  refine r_iload1 dX15_lambda_command_0_2 ?_
  refine r_callV (M' := mX2_addDough) _ dX15_lambda_command_0_3 q3159 q2148 q2149 rfl (lw_all_tbl q2150) q126 (by exact pl_X2_addDough) gc_X2 kb ((k_addDough2 w0 k w)) (by omega) (Nat.le_of_ble_eq_true rfl) (by omega) (by omega) rfl (Nat.le_of_ble_eq_true rfl) rfl (kI fun r3 h3 n3 e3 => ?_) (fun q h' n' hx => r_out (by intro x hx; cases hx) hx)
  exact r_ireturn dX15_lambda_command_0_6 rfl rfl (⟨e3.1, e3.2.1, e3.2.2.1, e3.2.2.2.1, e3.2.2.2.2.1, Nat.le_trans e3.2.2.2.2.2 (by omega)⟩)
theorem k_st16 (w0 : cOK K W) (wl : lOK K A) (k : bk K W lo n b ρ α h) (w : wB u ρ) (hu : u < 20000) (ho : h st = some (g_la 16 [.int p, .int p2])) : g_LC K xStp st [.ref b] 150 26 118 h n (muS K W lo b h n (eAd ρ p p2) (nI (ρ 0)) (mkD ρ (tN p) (tN p2)) (α)) (muX W [97, 115] h n (eAd ρ p p2)) := by
  intro M d bc bs P X pc L st st0 count index hd hlink hd1 hc hsl hL hw hst kn kx
  exact r_lamI (z := (l_x16, 216, 105, l_s16, k_L K 16, none)) (kk := 16) (M' := mX15_lambda_command_0) (x := xStp) (vals := [.int p, .int p2]) [.ref b] l_F16 (fw_run2 l_G16_0 rfl l_G16_1 rfl) l_q16 l_r16 (l_m16 wl) rfl pn_Parser (by decide) hd hlink q2316 q2315 rfl ⟨rfl, rfl, l_S16⟩ q3157 ⟨rfl, rfl, l_D16⟩ (lw_all_tbl q3158) q189 pl_xStp pl_X15_lambda_command_0 ho (k_lam16 w0 wl k w hu) hd1 (Nat.le_of_ble_eq_true rfl) hc hsl hL hw hst kn kx
theorem k_lam17 (w0 : cOK K W) (wl : lOK K A) (k : bk K W lo n b ρ α h) (w : wB u ρ) (hu : u < 20000) : g_Met K mX15_lambda_command_1 150 26 118 [.int p, .ref b] h n (gI (muS K W lo b h n (eBo ρ p) (nI (ρ 1)) (mkB ρ (tN p)) (α))) (muX W [97, 115] h n (eBo ρ p)) := by
  obtain ⟨-, -, -, t9, lb9, eb9, ll9, el9, kb, -⟩ := id k
  refine g_Met.of (M := mX15_lambda_command_1) (L := [some (.int p), some (.ref b)]) (by decide +kernel) (Nat.le_of_ble_eq_true rfl) rfl ?_
  refine r_aload1 dX15_lambda_command_1_0 ?_
  refine r_iload0 dX15_lambda_command_1_1 ?_
  refine r_callV (M' := mX2_addBowl) _ dX15_lambda_command_1_2 q3170 q2422 q2423 rfl (lw_all_tbl q2424) q126 (by exact pl_X2_addBowl) gc_X2 kb ((k_addBowl2 w0 k w)) (by omega) (Nat.le_of_ble_eq_true rfl) (by omega) (by omega) rfl (Nat.le_of_ble_eq_true rfl) rfl (kI fun r2 h2 n2 e2 => ?_) (fun q h' n' hx => r_out (by intro x hx; cases hx) hx)
  exact r_ireturn dX15_lambda_command_1_5 rfl rfl (⟨e2.1, e2.2.1, e2.2.2.1, e2.2.2.2.1, e2.2.2.2.2.1, Nat.le_trans e2.2.2.2.2.2 (by omega)⟩)
theorem k_st17 (w0 : cOK K W) (wl : lOK K A) (k : bk K W lo n b ρ α h) (w : wB u ρ) (hu : u < 20000) (ho : h st = some (g_la 17 [.int p])) : g_LC K xStp st [.ref b] 150 26 118 h n (muS K W lo b h n (eBo ρ p) (nI (ρ 1)) (mkB ρ (tN p)) (α)) (muX W [97, 115] h n (eBo ρ p)) := by
  intro M d bc bs P X pc L st st0 count index hd hlink hd1 hc hsl hL hw hst kn kx
  exact r_lamI (z := (l_x17, 239, 112, l_s17, k_L K 17, none)) (kk := 17) (M' := mX15_lambda_command_1) (x := xStp) (vals := [.int p]) [.ref b] l_F17 (fw_run1 l_G17_0 rfl) l_q17 l_r17 (l_m17 wl) rfl pn_Parser (by decide) hd hlink q2316 q2315 rfl ⟨rfl, rfl, l_S17⟩ q3168 ⟨rfl, rfl, l_D17⟩ (lw_all_tbl q3169) q189 pl_xStp pl_X15_lambda_command_1 ho (k_lam17 w0 wl k w hu) hd1 (Nat.le_of_ble_eq_true rfl) hc hsl hL hw hst kn kx
theorem k_lam18 (w0 : cOK K W) (wl : lOK K A) (k : bk K W lo n b ρ α h) (w : wB u ρ) (hu : u < 20000) : g_Met K mX15_lambda_command_2 150 26 118 [.int p, .int p2, .ref b] h n (gI (muS K W lo b h n (eLo ρ p p2) (nI (ρ 2)) (mkL ρ (tN p) (tN p2)) (α))) (muX W [97, 115] h n (eLo ρ p p2)) := by
  obtain ⟨-, -, -, t9, lb9, eb9, ll9, el9, kb, -⟩ := id k
  refine g_Met.of (M := mX15_lambda_command_2) (L := [some (.int p), some (.int p2), some (.ref b)]) (by decide +kernel) (Nat.le_of_ble_eq_true rfl) rfl ?_
  refine r_aload2 dX15_lambda_command_2_0 ?_
  refine r_iload0 dX15_lambda_command_2_1 ?_
  refine r_iload1 dX15_lambda_command_2_2 ?_
  refine r_callV (M' := mX2_addLoaf) _ dX15_lambda_command_2_3 q3173 q2435 q2436 rfl (lw_all_tbl q2437) q126 (by exact pl_X2_addLoaf) gc_X2 kb ((k_addLoaf2 w0 k w)) (by omega) (Nat.le_of_ble_eq_true rfl) (by omega) (by omega) rfl (Nat.le_of_ble_eq_true rfl) rfl (kI fun r3 h3 n3 e3 => ?_) (fun q h' n' hx => r_out (by intro x hx; cases hx) hx)
  exact r_ireturn dX15_lambda_command_2_6 rfl rfl (⟨e3.1, e3.2.1, e3.2.2.1, e3.2.2.2.1, e3.2.2.2.2.1, Nat.le_trans e3.2.2.2.2.2 (by omega)⟩)
theorem k_st18 (w0 : cOK K W) (wl : lOK K A) (k : bk K W lo n b ρ α h) (w : wB u ρ) (hu : u < 20000) (ho : h st = some (g_la 18 [.int p, .int p2])) : g_LC K xStp st [.ref b] 150 26 118 h n (muS K W lo b h n (eLo ρ p p2) (nI (ρ 2)) (mkL ρ (tN p) (tN p2)) (α)) (muX W [97, 115] h n (eLo ρ p p2)) := by
  intro M d bc bs P X pc L st st0 count index hd hlink hd1 hc hsl hL hw hst kn kx
  exact r_lamI (z := (l_x18, 272, 115, l_s18, k_L K 18, none)) (kk := 18) (M' := mX15_lambda_command_2) (x := xStp) (vals := [.int p, .int p2]) [.ref b] l_F18 (fw_run2 l_G18_0 rfl l_G18_1 rfl) l_q18 l_r18 (l_m18 wl) rfl pn_Parser (by decide) hd hlink q2316 q2315 rfl ⟨rfl, rfl, l_S18⟩ q3171 ⟨rfl, rfl, l_D18⟩ (lw_all_tbl q3172) q189 pl_xStp pl_X15_lambda_command_2 ho (k_lam18 w0 wl k w hu) hd1 (Nat.le_of_ble_eq_true rfl) hc hsl hL hw hst kn kx
theorem k_lam19 (w0 : cOK K W) (wl : lOK K A) (k : bk K W lo n b ρ α h) (w : wB u ρ) (hu : u < 20000) : g_Met K mX15_lambda_command_3 150 26 118 [.int p, .ref b] h n (gI (muS K W lo b h n (if ruI p then 0 else 1) (nI (ρ 4)) (fup ρ 4 (tN p)) (α))) (muX W [97] h n (if ruI p then 0 else 1)) := by
  obtain ⟨-, -, -, t9, lb9, eb9, ll9, el9, kb, -⟩ := id k
  refine g_Met.of (M := mX15_lambda_command_3) (L := [some (.int p), some (.ref b)]) (by decide +kernel) (Nat.le_of_ble_eq_true rfl) rfl ?_
  refine r_aload1 dX15_lambda_command_3_0 ?_
  refine r_iload0 dX15_lambda_command_3_1 ?_
  refine r_callV (M' := mX2_setRounding) _ dX15_lambda_command_3_2 q3177 q2502 q2503 rfl (lw_all_tbl q2504) q126 (by exact pl_X2_setRounding) gc_X2 kb ((k_setRounding2 w0 k w)) (by omega) (Nat.le_of_ble_eq_true rfl) (by omega) (by omega) rfl (Nat.le_of_ble_eq_true rfl) rfl (kI fun r2 h2 n2 e2 => ?_) (fun q h' n' hx => r_out (by intro x hx; cases hx) hx)
  exact r_ireturn dX15_lambda_command_3_5 rfl rfl (⟨e2.1, e2.2.1, e2.2.2.1, e2.2.2.2.1, e2.2.2.2.2.1, Nat.le_trans e2.2.2.2.2.2 (by omega)⟩)
theorem k_st19 (w0 : cOK K W) (wl : lOK K A) (k : bk K W lo n b ρ α h) (w : wB u ρ) (hu : u < 20000) (ho : h st = some (g_la 19 [.int p])) : g_LC K xStp st [.ref b] 150 26 118 h n (muS K W lo b h n (if ruI p then 0 else 1) (nI (ρ 4)) (fup ρ 4 (tN p)) (α)) (muX W [97] h n (if ruI p then 0 else 1)) := by
  intro M d bc bs P X pc L st st0 count index hd hlink hd1 hc hsl hL hw hst kn kx
  exact r_lamI (z := (l_x19, 319, 122, l_s19, k_L K 19, none)) (kk := 19) (M' := mX15_lambda_command_3) (x := xStp) (vals := [.int p]) [.ref b] l_F19 (fw_run1 l_G19_0 rfl) l_q19 l_r19 (l_m19 wl) rfl pn_Parser (by decide) hd hlink q2316 q2315 rfl ⟨rfl, rfl, l_S19⟩ q3175 ⟨rfl, rfl, l_D19⟩ (lw_all_tbl q3176) q189 pl_xStp pl_X15_lambda_command_3 ho (k_lam19 w0 wl k w hu) hd1 (Nat.le_of_ble_eq_true rfl) hc hsl hL hw hst kn kx
theorem k_lam20 (w0 : cOK K W) (wl : lOK K A) (k : bk K W lo n b ρ α h) (w : wB u ρ) (hu : u < 20000) : g_Met K mX15_lambda_pair_4 150 26 118 [.int p, .int p2, .ref b] h n (gI (muS K W lo b h n (eMx ρ p p2) (nI (sAb ρ (tN p) (tN p2) / Nat.gcd (sAb ρ (tN p) (tN p2)) (sBe ρ (tN p) (tN p2)))) (mxD ρ (tN p) (tN p2)) (α))) (muX W [105, 97, 117] h n (eMx ρ p p2)) := by
  obtain ⟨-, -, -, t9, lb9, eb9, ll9, el9, kb, -⟩ := id k
  refine g_Met.of (M := mX15_lambda_pair_4) (L := [some (.int p), some (.int p2), some (.ref b)]) (by decide +kernel) (Nat.le_of_ble_eq_true rfl) rfl ?_
  refine r_aload2 dX15_lambda_pair_4_0 ?_
  refine r_iload0 dX15_lambda_pair_4_1 ?_
  refine r_iload1 dX15_lambda_pair_4_2 ?_
  refine r_callV (M' := mX2_mix) _ dX15_lambda_pair_4_3 q3187 q2396 q2397 rfl (lw_all_tbl q2398) q126 (by exact pl_X2_mix) gc_X2 kb ((k_mix2 w0 k w)) (by omega) (Nat.le_of_ble_eq_true rfl) (by omega) (by omega) rfl (Nat.le_of_ble_eq_true rfl) rfl (kI fun r3 h3 n3 e3 => ?_) (fun q h' n' hx => r_out (by intro x hx; cases hx) hx)
  exact r_ireturn dX15_lambda_pair_4_6 rfl rfl (⟨e3.1, e3.2.1, e3.2.2.1, e3.2.2.2.1, e3.2.2.2.2.1, Nat.le_trans e3.2.2.2.2.2 (by omega)⟩)
theorem k_st20 (w0 : cOK K W) (wl : lOK K A) (k : bk K W lo n b ρ α h) (w : wB u ρ) (hu : u < 20000) (ho : h st = some (g_la 20 [.int p, .int p2])) : g_LC K xStp st [.ref b] 150 26 118 h n (muS K W lo b h n (eMx ρ p p2) (nI (sAb ρ (tN p) (tN p2) / Nat.gcd (sAb ρ (tN p) (tN p2)) (sBe ρ (tN p) (tN p2)))) (mxD ρ (tN p) (tN p2)) (α)) (muX W [105, 97, 117] h n (eMx ρ p p2)) := by
  intro M d bc bs P X pc L st st0 count index hd hlink hd1 hc hsl hL hw hst kn kx
  exact r_lamI (z := (l_x20, 11, 136, l_s20, k_L K 20, none)) (kk := 20) (M' := mX15_lambda_pair_4) (x := xStp) (vals := [.int p, .int p2]) [.ref b] l_F20 (fw_run2 l_G20_0 rfl l_G20_1 rfl) l_q20 l_r20 (l_m20 wl) rfl pn_Parser (by decide) hd hlink q2316 q2315 rfl ⟨rfl, rfl, l_S20⟩ q3185 ⟨rfl, rfl, l_D20⟩ (lw_all_tbl q3186) q189 pl_xStp pl_X15_lambda_pair_4 ho (k_lam20 w0 wl k w hu) hd1 (Nat.le_of_ble_eq_true rfl) hc hsl hL hw hst kn kx
theorem k_lam21 (w0 : cOK K W) (wl : lOK K A) (k : bk K W lo n b ρ α h) (w : wB u ρ) (hu : u < 20000) : g_Met K mX15_lambda_pair_5 150 26 118 [.int p, .int p2, .ref b] h n (gI (muS K W lo b h n (ePo ρ p p2) (nI (poD ρ (tN p) (tN p2)).2) ((poD ρ (tN p) (tN p2)).1) (fup (fup (fup α 6 (α 6 + lN (crm ρ (tN p)))) 9 (α 9 + erp ρ (tN p))) 7 (α 7 + lN (poD ρ (tN p) (tN p2)).2)))) (muX W [105] h n (ePo ρ p p2)) := by
  obtain ⟨-, -, -, t9, lb9, eb9, ll9, el9, kb, -⟩ := id k
  refine g_Met.of (M := mX15_lambda_pair_5) (L := [some (.int p), some (.int p2), some (.ref b)]) (by decide +kernel) (Nat.le_of_ble_eq_true rfl) rfl ?_
  refine r_aload2 dX15_lambda_pair_5_0 ?_
  refine r_iload0 dX15_lambda_pair_5_1 ?_
  refine r_iload1 dX15_lambda_pair_5_2 ?_
  refine r_callV (M' := mX2_pour) _ dX15_lambda_pair_5_3 q3190 q2518 q2519 rfl (lw_all_tbl q2520) q126 (by exact pl_X2_pour) gc_X2 kb ((k_pour2 w0 wl k w)) (by omega) (Nat.le_of_ble_eq_true rfl) (by omega) (by omega) rfl (Nat.le_of_ble_eq_true rfl) rfl (kI fun r3 h3 n3 e3 => ?_) (fun q h' n' hx => r_out (by intro x hx; cases hx) hx)
  exact r_ireturn dX15_lambda_pair_5_6 rfl rfl (⟨e3.1, e3.2.1, e3.2.2.1, e3.2.2.2.1, e3.2.2.2.2.1, Nat.le_trans e3.2.2.2.2.2 (by omega)⟩)
theorem k_st21 (w0 : cOK K W) (wl : lOK K A) (k : bk K W lo n b ρ α h) (w : wB u ρ) (hu : u < 20000) (ho : h st = some (g_la 21 [.int p, .int p2])) : g_LC K xStp st [.ref b] 150 26 118 h n (muS K W lo b h n (ePo ρ p p2) (nI (poD ρ (tN p) (tN p2)).2) ((poD ρ (tN p) (tN p2)).1) (fup (fup (fup α 6 (α 6 + lN (crm ρ (tN p)))) 9 (α 9 + erp ρ (tN p))) 7 (α 7 + lN (poD ρ (tN p) (tN p2)).2))) (muX W [105] h n (ePo ρ p p2)) := by
  intro M d bc bs P X pc L st st0 count index hd hlink hd1 hc hsl hL hw hst kn kx
  exact r_lamI (z := (l_x21, 21, 137, l_s21, k_L K 21, none)) (kk := 21) (M' := mX15_lambda_pair_5) (x := xStp) (vals := [.int p, .int p2]) [.ref b] l_F21 (fw_run2 l_G21_0 rfl l_G21_1 rfl) l_q21 l_r21 (l_m21 wl) rfl pn_Parser (by decide) hd hlink q2316 q2315 rfl ⟨rfl, rfl, l_S21⟩ q3188 ⟨rfl, rfl, l_D21⟩ (lw_all_tbl q3189) q189 pl_xStp pl_X15_lambda_pair_5 ho (k_lam21 w0 wl k w hu) hd1 (Nat.le_of_ble_eq_true rfl) hc hsl hL hw hst kn kx
theorem k_lam22 (w0 : cOK K W) (wl : lOK K A) (k : bk K W lo n b ρ α h) (w : wB u ρ) (hu : u < 20000) : g_Met K mX15_lambda_single_6 150 26 118 [.int p, .ref b] h n (gI (muS K W lo b h n (if ix p (ρ 2) then 0 else 1) (nI (ρ (34 + 3 * tN p))) (slL ρ (tN p)) (fup α 8 (α 8 + lN (ρ (34 + 3 * tN p)))))) (muX W [105] h n (if ix p (ρ 2) then 0 else 1)) := by
  obtain ⟨-, -, -, t9, lb9, eb9, ll9, el9, kb, -⟩ := id k
  refine g_Met.of (M := mX15_lambda_single_6) (L := [some (.int p), some (.ref b)]) (by decide +kernel) (Nat.le_of_ble_eq_true rfl) rfl ?_
  refine r_aload1 dX15_lambda_single_6_0 ?_
  refine r_iload0 dX15_lambda_single_6_1 ?_
  refine r_callV (M' := mX2_sellLoaf) _ dX15_lambda_single_6_2 q3200 q2449 q2450 rfl (lw_all_tbl q2451) q126 (by exact pl_X2_sellLoaf) gc_X2 kb ((k_sellLoaf2 w0 k w)) (by omega) (Nat.le_of_ble_eq_true rfl) (by omega) (by omega) rfl (Nat.le_of_ble_eq_true rfl) rfl (kI fun r2 h2 n2 e2 => ?_) (fun q h' n' hx => r_out (by intro x hx; cases hx) hx)
  exact r_ireturn dX15_lambda_single_6_5 rfl rfl (⟨e2.1, e2.2.1, e2.2.2.1, e2.2.2.2.1, e2.2.2.2.2.1, Nat.le_trans e2.2.2.2.2.2 (by omega)⟩)
theorem k_st22 (w0 : cOK K W) (wl : lOK K A) (k : bk K W lo n b ρ α h) (w : wB u ρ) (hu : u < 20000) (ho : h st = some (g_la 22 [.int p])) : g_LC K xStp st [.ref b] 150 26 118 h n (muS K W lo b h n (if ix p (ρ 2) then 0 else 1) (nI (ρ (34 + 3 * tN p))) (slL ρ (tN p)) (fup α 8 (α 8 + lN (ρ (34 + 3 * tN p))))) (muX W [105] h n (if ix p (ρ 2) then 0 else 1)) := by
  intro M d bc bs P X pc L st st0 count index hd hlink hd1 hc hsl hL hw hst kn kx
  exact r_lamI (z := (l_x22, 137, 146, l_s22, k_L K 22, none)) (kk := 22) (M' := mX15_lambda_single_6) (x := xStp) (vals := [.int p]) [.ref b] l_F22 (fw_run1 l_G22_0 rfl) l_q22 l_r22 (l_m22 wl) rfl pn_Parser (by decide) hd hlink q2316 q2315 rfl ⟨rfl, rfl, l_S22⟩ q3198 ⟨rfl, rfl, l_D22⟩ (lw_all_tbl q3199) q189 pl_xStp pl_X15_lambda_single_6 ho (k_lam22 w0 wl k w hu) hd1 (Nat.le_of_ble_eq_true rfl) hc hsl hL hw hst kn kx
theorem k_lam23 (w0 : cOK K W) (wl : lOK K A) (k : bk K W lo n b ρ α h) (w : wB u ρ) (hu : u < 20000) : g_Met K mX15_lambda_single_7 150 26 118 [.int p, .ref b] h n (gI (muS K W lo b h n (eSc ρ p) (nI (ρ 3)) (fup ρ 3 (tN p)) (α))) (muX W [97, 117] h n (eSc ρ p)) := by
  obtain ⟨-, -, -, t9, lb9, eb9, ll9, el9, kb, -⟩ := id k
  refine g_Met.of (M := mX15_lambda_single_7) (L := [some (.int p), some (.ref b)]) (by decide +kernel) (Nat.le_of_ble_eq_true rfl) rfl ?_
  refine r_aload1 dX15_lambda_single_7_0 ?_
  refine r_iload0 dX15_lambda_single_7_1 ?_
  refine r_callV (M' := mX2_setScale) _ dX15_lambda_single_7_2 q3203 q2489 q2490 rfl (lw_all_tbl q2491) q126 (by exact pl_X2_setScale) gc_X2 kb ((k_setScale2 w0 k w)) (by omega) (Nat.le_of_ble_eq_true rfl) (by omega) (by omega) rfl (Nat.le_of_ble_eq_true rfl) rfl (kI fun r2 h2 n2 e2 => ?_) (fun q h' n' hx => r_out (by intro x hx; cases hx) hx)
  exact r_ireturn dX15_lambda_single_7_5 rfl rfl (⟨e2.1, e2.2.1, e2.2.2.1, e2.2.2.2.1, e2.2.2.2.2.1, Nat.le_trans e2.2.2.2.2.2 (by omega)⟩)
theorem k_st23 (w0 : cOK K W) (wl : lOK K A) (k : bk K W lo n b ρ α h) (w : wB u ρ) (hu : u < 20000) (ho : h st = some (g_la 23 [.int p])) : g_LC K xStp st [.ref b] 150 26 118 h n (muS K W lo b h n (eSc ρ p) (nI (ρ 3)) (fup ρ 3 (tN p)) (α)) (muX W [97, 117] h n (eSc ρ p)) := by
  intro M d bc bs P X pc L st st0 count index hd hlink hd1 hc hsl hL hw hst kn kx
  exact r_lamI (z := (l_x23, 144, 147, l_s23, k_L K 23, none)) (kk := 23) (M' := mX15_lambda_single_7) (x := xStp) (vals := [.int p]) [.ref b] l_F23 (fw_run1 l_G23_0 rfl) l_q23 l_r23 (l_m23 wl) rfl pn_Parser (by decide) hd hlink q2316 q2315 rfl ⟨rfl, rfl, l_S23⟩ q3201 ⟨rfl, rfl, l_D23⟩ (lw_all_tbl q3202) q189 pl_xStp pl_X15_lambda_single_7 ho (k_lam23 w0 wl k w hu) hd1 (Nat.le_of_ble_eq_true rfl) hc hsl hL hw hst kn kx
theorem k_lam24 (w0 : cOK K W) (wl : lOK K A) (k : bk K W lo n b ρ α h) (w : wB u ρ) (hu : u < 20000) : g_Met K mX15_lambda_single_8 150 26 118 [.int p, .ref b] h n (gI (muS K W lo b h n (if ix p (ρ 1) then 0 else 1) (nI (ρ (23 + 2 * tN p))) (fup ρ (23 + 2 * tN p) 0) (fup α 8 (α 8 + lN (ρ (23 + 2 * tN p)))))) (muX W [105] h n (if ix p (ρ 1) then 0 else 1)) := by
  obtain ⟨-, -, -, t9, lb9, eb9, ll9, el9, kb, -⟩ := id k
  refine g_Met.of (M := mX15_lambda_single_8) (L := [some (.int p), some (.ref b)]) (by decide +kernel) (Nat.le_of_ble_eq_true rfl) rfl ?_
  refine r_aload1 dX15_lambda_single_8_0 ?_
  refine r_iload0 dX15_lambda_single_8_1 ?_
  refine r_callV (M' := mX2_empty) _ dX15_lambda_single_8_2 q3206 q2545 q2546 rfl (lw_all_tbl q2547) q126 (by exact pl_X2_empty) gc_X2 kb ((k_empty2 w0 k w)) (by omega) (Nat.le_of_ble_eq_true rfl) (by omega) (by omega) rfl (Nat.le_of_ble_eq_true rfl) rfl (kI fun r2 h2 n2 e2 => ?_) (fun q h' n' hx => r_out (by intro x hx; cases hx) hx)
  exact r_ireturn dX15_lambda_single_8_5 rfl rfl (⟨e2.1, e2.2.1, e2.2.2.1, e2.2.2.2.1, e2.2.2.2.2.1, Nat.le_trans e2.2.2.2.2.2 (by omega)⟩)
theorem k_st24 (w0 : cOK K W) (wl : lOK K A) (k : bk K W lo n b ρ α h) (w : wB u ρ) (hu : u < 20000) (ho : h st = some (g_la 24 [.int p])) : g_LC K xStp st [.ref b] 150 26 118 h n (muS K W lo b h n (if ix p (ρ 1) then 0 else 1) (nI (ρ (23 + 2 * tN p))) (fup ρ (23 + 2 * tN p) 0) (fup α 8 (α 8 + lN (ρ (23 + 2 * tN p))))) (muX W [105] h n (if ix p (ρ 1) then 0 else 1)) := by
  intro M d bc bs P X pc L st st0 count index hd hlink hd1 hc hsl hL hw hst kn kx
  exact r_lamI (z := (l_x24, 151, 148, l_s24, k_L K 24, none)) (kk := 24) (M' := mX15_lambda_single_8) (x := xStp) (vals := [.int p]) [.ref b] l_F24 (fw_run1 l_G24_0 rfl) l_q24 l_r24 (l_m24 wl) rfl pn_Parser (by decide) hd hlink q2316 q2315 rfl ⟨rfl, rfl, l_S24⟩ q3204 ⟨rfl, rfl, l_D24⟩ (lw_all_tbl q3205) q189 pl_xStp pl_X15_lambda_single_8 ho (k_lam24 w0 wl k w hu) hd1 (Nat.le_of_ble_eq_true rfl) hc hsl hL hw hst kn kx
theorem k_lam25 (w0 : cOK K W) (wl : lOK K A) (k : bk K W lo n b ρ α h) (w : wB u ρ) (hu : u < 20000) : g_Met K mX15_lambda_single_9 150 26 118 [.int p, .ref b] h n (gI (muS K W lo b h n (eBa ρ p) (nI (ρ (23 + 2 * tN p))) (bkD ρ (tN p)) (α))) (muX W [105, 101, 117] h n (eBa ρ p)) := by
  obtain ⟨-, -, -, t9, lb9, eb9, ll9, el9, kb, -⟩ := id k
  refine g_Met.of (M := mX15_lambda_single_9) (L := [some (.int p), some (.ref b)]) (by decide +kernel) (Nat.le_of_ble_eq_true rfl) rfl ?_
  refine r_aload1 dX15_lambda_single_9_0 ?_
  refine r_iload0 dX15_lambda_single_9_1 ?_
  refine r_callV (M' := mX2_bake) _ dX15_lambda_single_9_2 q3209 q2559 q2560 rfl (lw_all_tbl q2561) q126 (by exact pl_X2_bake) gc_X2 kb ((k_bake2 w0 k w hu)) (by omega) (Nat.le_of_ble_eq_true rfl) (by omega) (by omega) rfl (Nat.le_of_ble_eq_true rfl) rfl (kI fun r2 h2 n2 e2 => ?_) (fun q h' n' hx => r_out (by intro x hx; cases hx) hx)
  exact r_ireturn dX15_lambda_single_9_5 rfl rfl (⟨e2.1, e2.2.1, e2.2.2.1, e2.2.2.2.1, e2.2.2.2.2.1, Nat.le_trans e2.2.2.2.2.2 (by omega)⟩)
theorem k_st25 (w0 : cOK K W) (wl : lOK K A) (k : bk K W lo n b ρ α h) (w : wB u ρ) (hu : u < 20000) (ho : h st = some (g_la 25 [.int p])) : g_LC K xStp st [.ref b] 150 26 118 h n (muS K W lo b h n (eBa ρ p) (nI (ρ (23 + 2 * tN p))) (bkD ρ (tN p)) (α)) (muX W [105, 101, 117] h n (eBa ρ p)) := by
  intro M d bc bs P X pc L st st0 count index hd hlink hd1 hc hsl hL hw hst kn kx
  exact r_lamI (z := (l_x25, 158, 149, l_s25, k_L K 25, none)) (kk := 25) (M' := mX15_lambda_single_9) (x := xStp) (vals := [.int p]) [.ref b] l_F25 (fw_run1 l_G25_0 rfl) l_q25 l_r25 (l_m25 wl) rfl pn_Parser (by decide) hd hlink q2316 q2315 rfl ⟨rfl, rfl, l_S25⟩ q3207 ⟨rfl, rfl, l_D25⟩ (lw_all_tbl q3208) q189 pl_xStp pl_X15_lambda_single_9 ho (k_lam25 w0 wl k w hu) hd1 (Nat.le_of_ble_eq_true rfl) hc hsl hL hw hst kn kx
theorem k_lam26 (w0 : cOK K W) (wl : lOK K A) (k : bk K W lo n b ρ α h) (w : wB u ρ) (hu : u < 20000) : g_Met K mX15_lambda_single_10 150 26 118 [.int p, .ref b] h n (gI (muS K W lo b h n (eOv p) (nI (ρ 5)) (fup ρ 5 (tN p)) (α))) (muX W [97] h n (eOv p)) := by
  obtain ⟨-, -, -, t9, lb9, eb9, ll9, el9, kb, -⟩ := id k
  refine g_Met.of (M := mX15_lambda_single_10) (L := [some (.int p), some (.ref b)]) (by decide +kernel) (Nat.le_of_ble_eq_true rfl) rfl ?_
  refine r_aload1 dX15_lambda_single_10_0 ?_
  refine r_iload0 dX15_lambda_single_10_1 ?_
  refine r_callV (M' := mX2_setOvens) _ dX15_lambda_single_10_2 q3212 q2572 q2573 rfl (lw_all_tbl q2574) q126 (by exact pl_X2_setOvens) gc_X2 kb ((k_setOvens2 w0 k w)) (by omega) (Nat.le_of_ble_eq_true rfl) (by omega) (by omega) rfl (Nat.le_of_ble_eq_true rfl) rfl (kI fun r2 h2 n2 e2 => ?_) (fun q h' n' hx => r_out (by intro x hx; cases hx) hx)
  exact r_ireturn dX15_lambda_single_10_5 rfl rfl (⟨e2.1, e2.2.1, e2.2.2.1, e2.2.2.2.1, e2.2.2.2.2.1, Nat.le_trans e2.2.2.2.2.2 (by omega)⟩)
theorem k_st26 (w0 : cOK K W) (wl : lOK K A) (k : bk K W lo n b ρ α h) (w : wB u ρ) (hu : u < 20000) (ho : h st = some (g_la 26 [.int p])) : g_LC K xStp st [.ref b] 150 26 118 h n (muS K W lo b h n (eOv p) (nI (ρ 5)) (fup ρ 5 (tN p)) (α)) (muX W [97] h n (eOv p)) := by
  intro M d bc bs P X pc L st st0 count index hd hlink hd1 hc hsl hL hw hst kn kx
  exact r_lamI (z := (l_x26, 165, 150, l_s26, k_L K 26, none)) (kk := 26) (M' := mX15_lambda_single_10) (x := xStp) (vals := [.int p]) [.ref b] l_F26 (fw_run1 l_G26_0 rfl) l_q26 l_r26 (l_m26 wl) rfl pn_Parser (by decide) hd hlink q2316 q2315 rfl ⟨rfl, rfl, l_S26⟩ q3210 ⟨rfl, rfl, l_D26⟩ (lw_all_tbl q3211) q189 pl_xStp pl_X15_lambda_single_10 ho (k_lam26 w0 wl k w hu) hd1 (Nat.le_of_ble_eq_true rfl) hc hsl hL hw hst kn kx
/-- a step's object: its sort, its numbers -/
def stO (h : g_P) (st so : Nat) (p p2 : Int32) : Prop := (so = 100 ∧ (h st = some (g_la 5 [.int p, .int p2]) ∨ h st = some (g_la 16 [.int p, .int p2]))) ∨ (so = 109 ∧ (h st = some (g_la 6 [.int p, .int p2]) ∨ h st = some (g_la 20 [.int p, .int p2]))) ∨ (so = 98 ∧ (h st = some (g_la 7 [.int p]) ∨ h st = some (g_la 17 [.int p]))) ∨ (so = 108 ∧ (h st = some (g_la 8 [.int p, .int p2]) ∨ h st = some (g_la 18 [.int p, .int p2]))) ∨ (so = 115 ∧ (h st = some (g_la 9 [.int p]) ∨ h st = some (g_la 22 [.int p]))) ∨ (so = 99 ∧ (h st = some (g_la 10 [.int p]) ∨ h st = some (g_la 23 [.int p]))) ∨ (so = 112 ∧ (h st = some (g_la 12 [.int p, .int p2]) ∨ h st = some (g_la 21 [.int p, .int p2]))) ∨ (so = 101 ∧ (h st = some (g_la 13 [.int p]) ∨ h st = some (g_la 24 [.int p]))) ∨ (so = 107 ∧ (h st = some (g_la 14 [.int p]) ∨ h st = some (g_la 25 [.int p]))) ∨ (so = 111 ∧ (h st = some (g_la 15 [.int p]) ∨ h st = some (g_la 26 [.int p]))) ∨ (so = 114 ∧ (h st = some (g_la 11 [.int p]) ∨ h st = some (g_la 19 [.int p])))
theorem k_step {so : Nat} (w0 : cOK K W) (wl : lOK K A) (k : bk K W lo n b ρ α h) (w : wB u ρ) (hu : u < 20000) (ho : stO h st so p p2) : g_LC K xStp st [.ref b] 150 26 118 h n (muS K W lo b h n (seE ρ so p p2) (seV ρ so p p2) (seR ρ so p p2) (seA ρ α so p p2)) (muX W (seK so) h n (seE ρ so p p2)) := by
  rcases ho with ⟨rfl, ho | ho⟩ | ⟨rfl, ho | ho⟩ | ⟨rfl, ho | ho⟩ | ⟨rfl, ho | ho⟩ | ⟨rfl, ho | ho⟩ | ⟨rfl, ho | ho⟩ | ⟨rfl, ho | ho⟩ | ⟨rfl, ho | ho⟩ | ⟨rfl, ho | ho⟩ | ⟨rfl, ho | ho⟩ | ⟨rfl, ho | ho⟩
  · exact k_st5 w0 wl k w hu ho
  · exact k_st16 w0 wl k w hu ho
  · exact k_st6 w0 wl k w hu ho
  · exact k_st20 w0 wl k w hu ho
  · exact k_st7 w0 wl k w hu ho
  · exact k_st17 w0 wl k w hu ho
  · exact k_st8 w0 wl k w hu ho
  · exact k_st18 w0 wl k w hu ho
  · exact k_st9 w0 wl k w hu ho
  · exact k_st22 w0 wl k w hu ho
  · exact k_st10 w0 wl k w hu ho
  · exact k_st23 w0 wl k w hu ho
  · exact k_st12 w0 wl k w hu ho
  · exact k_st21 w0 wl k w hu ho
  · exact k_st13 w0 wl k w hu ho
  · exact k_st24 w0 wl k w hu ho
  · exact k_st14 w0 wl k w hu ho
  · exact k_st25 w0 wl k w hu ho
  · exact k_st15 w0 wl k w hu ho
  · exact k_st26 w0 wl k w hu ho
  · exact k_st11 w0 wl k w hu ho
  · exact k_st19 w0 wl k w hu ho
end
