/-! scripts: what a command does -/
set_option maxRecDepth 100000
/-- the sign of the exception at a place -/
def knd (e f s t : Nat) : Nat := if e = 0 then 0 else if e = 1 then f else if e = 2 then s else t
/-- the sorts of commands -/
abbrev srt (so : Nat) : Prop := so = 100 ∨ so = 109 ∨ so = 98 ∨ so = 108 ∨ so = 115 ∨ so = 99 ∨ so = 112 ∨ so = 101 ∨ so = 107 ∨ so = 111 ∨ so = 114
/-- why a command can't be carried out -/
def notN (ρ : Nat → Nat) (so : Nat) (N : Nat → Nat) : Nat :=
  if so = 100 then knd (eAd ρ (nI (N 0)) (nI (N 1))) 97 115 0
  else if so = 109 then knd (eMx ρ (nI (N 0)) (nI (N 1))) 105 97 117
  else if so = 98 then knd (eBo ρ (nI (N 0))) 97 115 0
  else if so = 108 then knd (eLo ρ (nI (N 0)) (nI (N 1))) 97 115 0
  else if so = 115 then (if ix (nI (N 0)) (ρ 2) then 0 else 105)
  else if so = 99 then knd (eSc ρ (nI (N 0))) 97 117 0
  else if so = 112 then knd (ePo ρ (nI (N 0)) (nI (N 1))) 105 0 0
  else if so = 101 then (if ix (nI (N 0)) (ρ 1) then 0 else 105)
  else if so = 107 then knd (eBa ρ (nI (N 0))) 105 101 117
  else if so = 111 then knd (eOv (nI (N 0))) 97 0 0
  else 0
/-- the row and the accounts behind a command -/
def dosR (ρ : Nat → Nat) (so : Nat) (N : Nat → Nat) : Nat → Nat :=
  if so = 100 then mkD ρ (N 0) (N 1) else if so = 109 then mxD ρ (N 0) (N 1) else if so = 98 then mkB ρ (N 0) else if so = 108 then mkL ρ (N 0) (N 1)
  else if so = 115 then slL ρ (N 0) else if so = 99 then fup ρ 3 (N 0) else if so = 112 then (poD ρ (N 0) (N 1)).1 else if so = 101 then fup ρ (23 + 2 * N 0) 0
  else if so = 107 then bkD ρ (N 0) else if so = 111 then fup ρ 5 (N 0) else fup ρ 4 (N 0)
def dosA (ρ : Nat → Nat) (α : Nat → Int64) (so : Nat) (N : Nat → Nat) : Nat → Int64 :=
  if so = 115 then fup α 8 (α 8 + lN (ρ (34 + 3 * N 0)))
  else if so = 112 then fup (fup (fup α 6 (α 6 + lN (crm ρ (N 0)))) 9 (α 9 + erp ρ (N 0))) 7 (α 7 + lN (poD ρ (N 0) (N 1)).2)
  else if so = 101 then fup α 8 (α 8 + lN (ρ (23 + 2 * N 0)))
  else α
section
variable {K : g_K} {a n u : Nat} {V : Nat → Nat → Int32} {R : Nat → Nat → Nat} {A : Nat → Nat → Int64} {h : g_P}
theorem k_kind {e f s t : Nat} (he : e < 2147483648) : g_Met K mX3_kind 1 0 0 [.int (nI e), .int (nI f), .int (nI s), .int (nI t)] h n (gI fun r h' n' => r = nI (knd e f s t) ∧ h' = h ∧ n' = n) gN := by
  refine g_Met.of (M := mX3_kind) (L := [some (.int (nI e)), some (.int (nI f)), some (.int (nI s)), some (.int (nI t))]) (by decide +kernel) (Nat.le_of_ble_eq_true rfl) rfl ?_
  refine r_iload0 dX3_kind_0 ?_
  refine r_if_neN (tgt := 8) dX3_kind_1 (by decide) (by omega) (fun c1 => ?_) (fun c1 => ?_)
  · refine r_iload0 dX3_kind_8 ?_
    refine r_iconst (v := nI 1) dX3_kind_9 (by decide) ?_
    refine r_icmp_neN (tgt := 17) dX3_kind_10 (by decide) (by omega) (by omega) (fun c10 => ?_) (fun c10 => ?_)
    · refine r_iload0 dX3_kind_17 ?_
      refine r_iconst (v := nI 2) dX3_kind_18 (by decide) ?_
      refine r_icmp_neN (tgt := 26) dX3_kind_19 (by decide) (by omega) (by omega) (fun c19 => ?_) (fun c19 => ?_)
      · refine r_iload3 dX3_kind_26 ?_
        exact r_ireturn dX3_kind_27 rfl rfl (⟨by unfold knd; rw [if_neg c1, if_neg c10, if_neg c19], rfl, rfl⟩)
      · refine r_iload2 dX3_kind_22 ?_
        refine r_goto (tgt := 27) dX3_kind_23 (by decide) ?_
        exact r_ireturn dX3_kind_27 rfl rfl (⟨by unfold knd; rw [if_neg c1, if_neg c10, if_pos c19], rfl, rfl⟩)
    · refine r_iload1 dX3_kind_13 ?_
      refine r_goto (tgt := 27) dX3_kind_14 (by decide) ?_
      exact r_ireturn dX3_kind_27 rfl rfl (⟨by unfold knd; rw [if_neg c1, if_pos c10], rfl, rfl⟩)
  · refine r_iconst (v := nI 0) dX3_kind_4 (by decide) ?_
    refine r_goto (tgt := 27) dX3_kind_5 (by decide) ?_
    exact r_ireturn dX3_kind_27 rfl rfl (⟨by unfold knd; rw [if_pos c1], rfl, rfl⟩)
theorem k_notNow {so : Nat} {N : Nat → Nat} (m : mS a V R A h) (w : wB u (R 1)) (h21 : V 0 21 = nI so) (hs : srt so) (h8 : ∀ j, j < 2 → V 8 j = nI (N j)) : g_Met K mX3_notNow 6 0 0 [.ref a] h n (gI fun r h' n' => r = nI (notN (R 1) so N) ∧ h' = h ∧ n' = n) gN := by
  have b := w.b
  have n0 := h8 0 (by decide)
  have n1 := h8 1 (by decide)
  have z1 := eAd_b (ρ := R 1) (p := nI (N 0)) (q := nI (N 1))
  have z2 := eMx_b (ρ := R 1) (p := nI (N 0)) (q := nI (N 1))
  have z3 := eBo_b (ρ := R 1) (p := nI (N 0))
  have z4 := eLo_b (ρ := R 1) (p := nI (N 0)) (q := nI (N 1))
  have z5 := eSc_b (ρ := R 1) (p := nI (N 0))
  have z6 := ePo_b (ρ := R 1) (p := nI (N 0)) (q := nI (N 1))
  have z7 := eBa_b (ρ := R 1) (p := nI (N 0))
  have z8 := eOv_b (p := nI (N 0))
  refine g_Met.of (M := mX3_notNow) (L := [some (.ref a), none, none]) (by decide +kernel) (Nat.le_of_ble_eq_true rfl) rfl ?_
  refine r_aload0 dX3_notNow_0 ?_
  refine f_X3_43_X3 dX3_notNow_1 (by first | exact m.1 | exact m0.1 | exact m1.1 | exact m2.1 | exact m3.1 | assumption | exact g_us | (rw [g_un (by omega)]; assumption) | (rw [g_un (by omega)]; exact g_us) | (rw [g_un (by omega), g_un (by omega)]; assumption) | (rw [g_un (by omega), g_un (by omega)]; exact g_us) | (rw [g_un (by omega), g_un (by omega), g_un (by omega)]; assumption) | ((repeat (rw [g_un (by omega)])); first | exact m.1 | exact m0.1 | exact m1.1 | exact m2.1 | exact m3.1 | exact g_us | assumption)) ?_
  refine r_iconst (v := nI 0) dX3_notNow_4 (by decide) ?_
  refine r_iaload (0) dX3_notNow_5 m.nn rfl (by omega) (by rw [aI_at (by decide), n0]) ?_
  refine r_istore1 dX3_notNow_6 ?_
  refine r_aload0 dX3_notNow_7 ?_
  refine f_X3_43_X3 dX3_notNow_8 (by first | exact m.1 | exact m0.1 | exact m1.1 | exact m2.1 | exact m3.1 | assumption | exact g_us | (rw [g_un (by omega)]; assumption) | (rw [g_un (by omega)]; exact g_us) | (rw [g_un (by omega), g_un (by omega)]; assumption) | (rw [g_un (by omega), g_un (by omega)]; exact g_us) | (rw [g_un (by omega), g_un (by omega), g_un (by omega)]; assumption) | ((repeat (rw [g_un (by omega)])); first | exact m.1 | exact m0.1 | exact m1.1 | exact m2.1 | exact m3.1 | exact g_us | assumption)) ?_
  refine r_iconst (v := nI 1) dX3_notNow_11 (by decide) ?_
  refine r_iaload (1) dX3_notNow_12 m.nn rfl (by omega) (by rw [aI_at (by decide), n1]) ?_
  refine r_istore2 dX3_notNow_13 ?_
  refine r_aload0 dX3_notNow_14 ?_
  refine f_X3_292_X3 dX3_notNow_15 (by first | exact m.1 | exact m0.1 | exact m1.1 | exact m2.1 | exact m3.1 | assumption | exact g_us | (rw [g_un (by omega)]; assumption) | (rw [g_un (by omega)]; exact g_us) | (rw [g_un (by omega), g_un (by omega)]; assumption) | (rw [g_un (by omega), g_un (by omega)]; exact g_us) | (rw [g_un (by omega), g_un (by omega), g_un (by omega)]; assumption) | ((repeat (rw [g_un (by omega)])); first | exact m.1 | exact m0.1 | exact m1.1 | exact m2.1 | exact m3.1 | exact g_us | assumption)) ?_
  rw [h21]
  rcases hs with e18 | e18 | e18 | e18 | e18 | e18 | e18 | e18 | e18 | e18 | e18
  · rw [e18]
    refine r_tableIn (off := 86) (tgt := 104) dX3_notNow_18 (by decide +kernel) (by decide +kernel) (by decide +kernel) (by decide) ?_
    refine r_aload0 dX3_notNow_104 ?_
    refine r_iload1 dX3_notNow_105 ?_
    refine r_iload2 dX3_notNow_106 ?_
    refine r_callV (M' := mX3_notDough) _ dX3_notNow_107 q3478 q3480 qs55 rfl (lw_all_tbl q3481) q138 (by exact pl_X3_notDough) gc_X3 (by first | exact m.1 | exact m0.1 | exact m1.1 | exact m2.1 | exact m3.1 | assumption | exact g_us | (rw [g_un (by omega)]; assumption) | (rw [g_un (by omega)]; exact g_us) | (rw [g_un (by omega), g_un (by omega)]; assumption) | (rw [g_un (by omega), g_un (by omega)]; exact g_us) | (rw [g_un (by omega), g_un (by omega), g_un (by omega)]; assumption) | ((repeat (rw [g_un (by omega)])); first | exact m.1 | exact m0.1 | exact m1.1 | exact m2.1 | exact m3.1 | exact g_us | assumption)) ((k_notDough m w)) (by omega) (Nat.le_of_ble_eq_true rfl) (by omega) (by omega) rfl (Nat.le_of_ble_eq_true rfl) rfl (kI fun r107 h107 n107 e107 => ?_) kN
    obtain ⟨rfl, rfl, rfl⟩ := e107
    refine r_bipush (v := nI 97) dX3_notNow_110 (by decide) ?_
    refine r_bipush (v := nI 115) dX3_notNow_112 (by decide) ?_
    refine r_iconst (v := nI 0) dX3_notNow_114 (by decide) ?_
    refine r_callS (M' := mX3_kind) _ dX3_notNow_115 q3964 q3965 rfl (lw_all_tbl q3966) q138 (by exact pl_X3_kind)  ((k_kind (by omega))) (by omega) (Nat.le_of_ble_eq_true rfl) (by omega) (by omega) rfl (Nat.le_of_ble_eq_true rfl) rfl (kI fun r115 h115 n115 e115 => ?_) kN
    obtain ⟨rfl, rfl, rfl⟩ := e115
    exact r_ireturn dX3_notNow_118 rfl rfl (⟨by unfold notN; rfl, rfl, rfl⟩)
  · rw [e18]
    refine r_tableIn (off := 101) (tgt := 119) dX3_notNow_18 (by decide +kernel) (by decide +kernel) (by decide +kernel) (by decide) ?_
    refine r_aload0 dX3_notNow_119 ?_
    refine r_iload1 dX3_notNow_120 ?_
    refine r_iload2 dX3_notNow_121 ?_
    refine r_callV (M' := mX3_notMix) _ dX3_notNow_122 q3520 q3522 qs63 rfl (lw_all_tbl q3523) q138 (by exact pl_X3_notMix) gc_X3 (by first | exact m.1 | exact m0.1 | exact m1.1 | exact m2.1 | exact m3.1 | assumption | exact g_us | (rw [g_un (by omega)]; assumption) | (rw [g_un (by omega)]; exact g_us) | (rw [g_un (by omega), g_un (by omega)]; assumption) | (rw [g_un (by omega), g_un (by omega)]; exact g_us) | (rw [g_un (by omega), g_un (by omega), g_un (by omega)]; assumption) | ((repeat (rw [g_un (by omega)])); first | exact m.1 | exact m0.1 | exact m1.1 | exact m2.1 | exact m3.1 | exact g_us | assumption)) ((k_notMix m w)) (by omega) (Nat.le_of_ble_eq_true rfl) (by omega) (by omega) rfl (Nat.le_of_ble_eq_true rfl) rfl (kI fun r122 h122 n122 e122 => ?_) kN
    obtain ⟨rfl, rfl, rfl⟩ := e122
    refine r_bipush (v := nI 105) dX3_notNow_125 (by decide) ?_
    refine r_bipush (v := nI 97) dX3_notNow_127 (by decide) ?_
    refine r_bipush (v := nI 117) dX3_notNow_129 (by decide) ?_
    refine r_callS (M' := mX3_kind) _ dX3_notNow_131 q3964 q3965 rfl (lw_all_tbl q3966) q138 (by exact pl_X3_kind)  ((k_kind (by omega))) (by omega) (Nat.le_of_ble_eq_true rfl) (by omega) (by omega) rfl (Nat.le_of_ble_eq_true rfl) rfl (kI fun r131 h131 n131 e131 => ?_) kN
    obtain ⟨rfl, rfl, rfl⟩ := e131
    exact r_ireturn dX3_notNow_134 rfl rfl (⟨by unfold notN; rfl, rfl, rfl⟩)
  · rw [e18]
    refine r_tableIn (off := 117) (tgt := 135) dX3_notNow_18 (by decide +kernel) (by decide +kernel) (by decide +kernel) (by decide) ?_
    refine r_aload0 dX3_notNow_135 ?_
    refine r_iload1 dX3_notNow_136 ?_
    refine r_callV (M' := mX3_notBowl) _ dX3_notNow_137 q3548 q3550 qs69 rfl (lw_all_tbl q3551) q138 (by exact pl_X3_notBowl) gc_X3 (by first | exact m.1 | exact m0.1 | exact m1.1 | exact m2.1 | exact m3.1 | assumption | exact g_us | (rw [g_un (by omega)]; assumption) | (rw [g_un (by omega)]; exact g_us) | (rw [g_un (by omega), g_un (by omega)]; assumption) | (rw [g_un (by omega), g_un (by omega)]; exact g_us) | (rw [g_un (by omega), g_un (by omega), g_un (by omega)]; assumption) | ((repeat (rw [g_un (by omega)])); first | exact m.1 | exact m0.1 | exact m1.1 | exact m2.1 | exact m3.1 | exact g_us | assumption)) ((k_notBowl m w)) (by omega) (Nat.le_of_ble_eq_true rfl) (by omega) (by omega) rfl (Nat.le_of_ble_eq_true rfl) rfl (kI fun r137 h137 n137 e137 => ?_) kN
    obtain ⟨rfl, rfl, rfl⟩ := e137
    refine r_bipush (v := nI 97) dX3_notNow_140 (by decide) ?_
    refine r_bipush (v := nI 115) dX3_notNow_142 (by decide) ?_
    refine r_iconst (v := nI 0) dX3_notNow_144 (by decide) ?_
    refine r_callS (M' := mX3_kind) _ dX3_notNow_145 q3964 q3965 rfl (lw_all_tbl q3966) q138 (by exact pl_X3_kind)  ((k_kind (by omega))) (by omega) (Nat.le_of_ble_eq_true rfl) (by omega) (by omega) rfl (Nat.le_of_ble_eq_true rfl) rfl (kI fun r145 h145 n145 e145 => ?_) kN
    obtain ⟨rfl, rfl, rfl⟩ := e145
    exact r_ireturn dX3_notNow_148 rfl rfl (⟨by unfold notN; rfl, rfl, rfl⟩)
  · rw [e18]
    refine r_tableIn (off := 131) (tgt := 149) dX3_notNow_18 (by decide +kernel) (by decide +kernel) (by decide +kernel) (by decide) ?_
    refine r_aload0 dX3_notNow_149 ?_
    refine r_iload1 dX3_notNow_150 ?_
    refine r_iload2 dX3_notNow_151 ?_
    refine r_callV (M' := mX3_notLoaf) _ dX3_notNow_152 q3560 q3562 qs71 rfl (lw_all_tbl q3563) q138 (by exact pl_X3_notLoaf) gc_X3 (by first | exact m.1 | exact m0.1 | exact m1.1 | exact m2.1 | exact m3.1 | assumption | exact g_us | (rw [g_un (by omega)]; assumption) | (rw [g_un (by omega)]; exact g_us) | (rw [g_un (by omega), g_un (by omega)]; assumption) | (rw [g_un (by omega), g_un (by omega)]; exact g_us) | (rw [g_un (by omega), g_un (by omega), g_un (by omega)]; assumption) | ((repeat (rw [g_un (by omega)])); first | exact m.1 | exact m0.1 | exact m1.1 | exact m2.1 | exact m3.1 | exact g_us | assumption)) ((k_notLoaf m w)) (by omega) (Nat.le_of_ble_eq_true rfl) (by omega) (by omega) rfl (Nat.le_of_ble_eq_true rfl) rfl (kI fun r152 h152 n152 e152 => ?_) kN
    obtain ⟨rfl, rfl, rfl⟩ := e152
    refine r_bipush (v := nI 97) dX3_notNow_155 (by decide) ?_
    refine r_bipush (v := nI 115) dX3_notNow_157 (by decide) ?_
    refine r_iconst (v := nI 0) dX3_notNow_159 (by decide) ?_
    refine r_callS (M' := mX3_kind) _ dX3_notNow_160 q3964 q3965 rfl (lw_all_tbl q3966) q138 (by exact pl_X3_kind)  ((k_kind (by omega))) (by omega) (Nat.le_of_ble_eq_true rfl) (by omega) (by omega) rfl (Nat.le_of_ble_eq_true rfl) rfl (kI fun r160 h160 n160 e160 => ?_) kN
    obtain ⟨rfl, rfl, rfl⟩ := e160
    exact r_ireturn dX3_notNow_163 rfl rfl (⟨by unfold notN; rfl, rfl, rfl⟩)
  · rw [e18]
    refine r_tableIn (off := 146) (tgt := 164) dX3_notNow_18 (by decide +kernel) (by decide +kernel) (by decide +kernel) (by decide) ?_
    refine r_aload0 dX3_notNow_164 ?_
    refine r_iload1 dX3_notNow_165 ?_
    refine r_callV (M' := mX3_isLoaf) _ dX3_notNow_166 q3572 q3574 qs73 rfl (lw_all_tbl q3575) q138 (by exact pl_X3_isLoaf) gc_X3 (by first | exact m.1 | exact m0.1 | exact m1.1 | exact m2.1 | exact m3.1 | assumption | exact g_us | (rw [g_un (by omega)]; assumption) | (rw [g_un (by omega)]; exact g_us) | (rw [g_un (by omega), g_un (by omega)]; assumption) | (rw [g_un (by omega), g_un (by omega)]; exact g_us) | (rw [g_un (by omega), g_un (by omega), g_un (by omega)]; assumption) | ((repeat (rw [g_un (by omega)])); first | exact m.1 | exact m0.1 | exact m1.1 | exact m2.1 | exact m3.1 | exact g_us | assumption)) ((k_isLoaf m w)) (by omega) (Nat.le_of_ble_eq_true rfl) (by omega) (by omega) rfl (Nat.le_of_ble_eq_true rfl) rfl (kI fun r166 h166 n166 e166 => ?_) kN
    obtain ⟨rfl, rfl, rfl⟩ := e166
    refine r_if_eqB (tgt := 176) dX3_notNow_169 (by decide) (fun c169 => ?_) (fun c169 => ?_)
    · refine r_bipush (v := nI 105) dX3_notNow_176 (by decide) ?_
      exact r_ireturn dX3_notNow_178 rfl rfl (⟨by unfold notN; exact congrArg nI (if_neg c169).symm, rfl, rfl⟩)
    · refine r_iconst (v := nI 0) dX3_notNow_172 (by decide) ?_
      refine r_goto (tgt := 178) dX3_notNow_173 (by decide) ?_
      exact r_ireturn dX3_notNow_178 rfl rfl (⟨by unfold notN; exact congrArg nI (if_pos c169).symm, rfl, rfl⟩)
  · rw [e18]
    refine r_tableIn (off := 161) (tgt := 179) dX3_notNow_18 (by decide +kernel) (by decide +kernel) (by decide +kernel) (by decide) ?_
    refine r_aload0 dX3_notNow_179 ?_
    refine r_iload1 dX3_notNow_180 ?_
    refine r_callV (M' := mX3_notScale) _ dX3_notNow_181 q3588 q3590 qs76 rfl (lw_all_tbl q3591) q138 (by exact pl_X3_notScale) gc_X3 (by first | exact m.1 | exact m0.1 | exact m1.1 | exact m2.1 | exact m3.1 | assumption | exact g_us | (rw [g_un (by omega)]; assumption) | (rw [g_un (by omega)]; exact g_us) | (rw [g_un (by omega), g_un (by omega)]; assumption) | (rw [g_un (by omega), g_un (by omega)]; exact g_us) | (rw [g_un (by omega), g_un (by omega), g_un (by omega)]; assumption) | ((repeat (rw [g_un (by omega)])); first | exact m.1 | exact m0.1 | exact m1.1 | exact m2.1 | exact m3.1 | exact g_us | assumption)) ((k_notScale m w)) (by omega) (Nat.le_of_ble_eq_true rfl) (by omega) (by omega) rfl (Nat.le_of_ble_eq_true rfl) rfl (kI fun r181 h181 n181 e181 => ?_) kN
    obtain ⟨rfl, rfl, rfl⟩ := e181
    refine r_bipush (v := nI 97) dX3_notNow_184 (by decide) ?_
    refine r_bipush (v := nI 117) dX3_notNow_186 (by decide) ?_
    refine r_iconst (v := nI 0) dX3_notNow_188 (by decide) ?_
    refine r_callS (M' := mX3_kind) _ dX3_notNow_189 q3964 q3965 rfl (lw_all_tbl q3966) q138 (by exact pl_X3_kind)  ((k_kind (by omega))) (by omega) (Nat.le_of_ble_eq_true rfl) (by omega) (by omega) rfl (Nat.le_of_ble_eq_true rfl) rfl (kI fun r189 h189 n189 e189 => ?_) kN
    obtain ⟨rfl, rfl, rfl⟩ := e189
    exact r_ireturn dX3_notNow_192 rfl rfl (⟨by unfold notN; rfl, rfl, rfl⟩)
  · rw [e18]
    refine r_tableIn (off := 175) (tgt := 193) dX3_notNow_18 (by decide +kernel) (by decide +kernel) (by decide +kernel) (by decide) ?_
    refine r_aload0 dX3_notNow_193 ?_
    refine r_iload1 dX3_notNow_194 ?_
    refine r_iload2 dX3_notNow_195 ?_
    refine r_callV (M' := mX3_notPour) _ dX3_notNow_196 q3619 q3621 qs81 rfl (lw_all_tbl q3622) q138 (by exact pl_X3_notPour) gc_X3 (by first | exact m.1 | exact m0.1 | exact m1.1 | exact m2.1 | exact m3.1 | assumption | exact g_us | (rw [g_un (by omega)]; assumption) | (rw [g_un (by omega)]; exact g_us) | (rw [g_un (by omega), g_un (by omega)]; assumption) | (rw [g_un (by omega), g_un (by omega)]; exact g_us) | (rw [g_un (by omega), g_un (by omega), g_un (by omega)]; assumption) | ((repeat (rw [g_un (by omega)])); first | exact m.1 | exact m0.1 | exact m1.1 | exact m2.1 | exact m3.1 | exact g_us | assumption)) ((k_notPour m w)) (by omega) (Nat.le_of_ble_eq_true rfl) (by omega) (by omega) rfl (Nat.le_of_ble_eq_true rfl) rfl (kI fun r196 h196 n196 e196 => ?_) kN
    obtain ⟨rfl, rfl, rfl⟩ := e196
    refine r_bipush (v := nI 105) dX3_notNow_199 (by decide) ?_
    refine r_iconst (v := nI 0) dX3_notNow_201 (by decide) ?_
    refine r_iconst (v := nI 0) dX3_notNow_202 (by decide) ?_
    refine r_callS (M' := mX3_kind) _ dX3_notNow_203 q3964 q3965 rfl (lw_all_tbl q3966) q138 (by exact pl_X3_kind)  ((k_kind (by omega))) (by omega) (Nat.le_of_ble_eq_true rfl) (by omega) (by omega) rfl (Nat.le_of_ble_eq_true rfl) rfl (kI fun r203 h203 n203 e203 => ?_) kN
    obtain ⟨rfl, rfl, rfl⟩ := e203
    exact r_ireturn dX3_notNow_206 rfl rfl (⟨by unfold notN; rfl, rfl, rfl⟩)
  · rw [e18]
    refine r_tableIn (off := 189) (tgt := 207) dX3_notNow_18 (by decide +kernel) (by decide +kernel) (by decide +kernel) (by decide) ?_
    refine r_aload0 dX3_notNow_207 ?_
    refine r_iload1 dX3_notNow_208 ?_
    refine r_callV (M' := mX3_isBowl) _ dX3_notNow_209 q3623 q3625 qs82 rfl (lw_all_tbl q3626) q138 (by exact pl_X3_isBowl) gc_X3 (by first | exact m.1 | exact m0.1 | exact m1.1 | exact m2.1 | exact m3.1 | assumption | exact g_us | (rw [g_un (by omega)]; assumption) | (rw [g_un (by omega)]; exact g_us) | (rw [g_un (by omega), g_un (by omega)]; assumption) | (rw [g_un (by omega), g_un (by omega)]; exact g_us) | (rw [g_un (by omega), g_un (by omega), g_un (by omega)]; assumption) | ((repeat (rw [g_un (by omega)])); first | exact m.1 | exact m0.1 | exact m1.1 | exact m2.1 | exact m3.1 | exact g_us | assumption)) ((k_isBowl m w)) (by omega) (Nat.le_of_ble_eq_true rfl) (by omega) (by omega) rfl (Nat.le_of_ble_eq_true rfl) rfl (kI fun r209 h209 n209 e209 => ?_) kN
    obtain ⟨rfl, rfl, rfl⟩ := e209
    refine r_if_eqB (tgt := 219) dX3_notNow_212 (by decide) (fun c212 => ?_) (fun c212 => ?_)
    · refine r_bipush (v := nI 105) dX3_notNow_219 (by decide) ?_
      exact r_ireturn dX3_notNow_221 rfl rfl (⟨by unfold notN; exact congrArg nI (if_neg c212).symm, rfl, rfl⟩)
    · refine r_iconst (v := nI 0) dX3_notNow_215 (by decide) ?_
      refine r_goto (tgt := 221) dX3_notNow_216 (by decide) ?_
      exact r_ireturn dX3_notNow_221 rfl rfl (⟨by unfold notN; exact congrArg nI (if_pos c212).symm, rfl, rfl⟩)
  · rw [e18]
    refine r_tableIn (off := 204) (tgt := 222) dX3_notNow_18 (by decide +kernel) (by decide +kernel) (by decide +kernel) (by decide) ?_
    refine r_aload0 dX3_notNow_222 ?_
    refine r_iload1 dX3_notNow_223 ?_
    refine r_callV (M' := mX3_notBake) _ dX3_notNow_224 q3656 q3658 qs88 rfl (lw_all_tbl q3659) q138 (by exact pl_X3_notBake) gc_X3 (by first | exact m.1 | exact m0.1 | exact m1.1 | exact m2.1 | exact m3.1 | assumption | exact g_us | (rw [g_un (by omega)]; assumption) | (rw [g_un (by omega)]; exact g_us) | (rw [g_un (by omega), g_un (by omega)]; assumption) | (rw [g_un (by omega), g_un (by omega)]; exact g_us) | (rw [g_un (by omega), g_un (by omega), g_un (by omega)]; assumption) | ((repeat (rw [g_un (by omega)])); first | exact m.1 | exact m0.1 | exact m1.1 | exact m2.1 | exact m3.1 | exact g_us | assumption)) ((k_notBake m w)) (by omega) (Nat.le_of_ble_eq_true rfl) (by omega) (by omega) rfl (Nat.le_of_ble_eq_true rfl) rfl (kI fun r224 h224 n224 e224 => ?_) kN
    obtain ⟨rfl, rfl, rfl⟩ := e224
    refine r_bipush (v := nI 105) dX3_notNow_227 (by decide) ?_
    refine r_bipush (v := nI 101) dX3_notNow_229 (by decide) ?_
    refine r_bipush (v := nI 117) dX3_notNow_231 (by decide) ?_
    refine r_callS (M' := mX3_kind) _ dX3_notNow_233 q3964 q3965 rfl (lw_all_tbl q3966) q138 (by exact pl_X3_kind)  ((k_kind (by omega))) (by omega) (Nat.le_of_ble_eq_true rfl) (by omega) (by omega) rfl (Nat.le_of_ble_eq_true rfl) rfl (kI fun r233 h233 n233 e233 => ?_) kN
    obtain ⟨rfl, rfl, rfl⟩ := e233
    exact r_ireturn dX3_notNow_236 rfl rfl (⟨by unfold notN; rfl, rfl, rfl⟩)
  · rw [e18]
    refine r_tableIn (off := 219) (tgt := 237) dX3_notNow_18 (by decide +kernel) (by decide +kernel) (by decide +kernel) (by decide) ?_
    refine r_iload1 dX3_notNow_237 ?_
    refine r_callS (M' := mX3_notOvens) _ dX3_notNow_238 q3684 q3685 rfl (lw_all_tbl q3686) q138 (by exact pl_X3_notOvens)  (k_notOvens) (by omega) (Nat.le_of_ble_eq_true rfl) (by omega) (by omega) rfl (Nat.le_of_ble_eq_true rfl) rfl (kI fun r238 h238 n238 e238 => ?_) kN
    obtain ⟨rfl, rfl, rfl⟩ := e238
    refine r_bipush (v := nI 97) dX3_notNow_241 (by decide) ?_
    refine r_iconst (v := nI 0) dX3_notNow_243 (by decide) ?_
    refine r_iconst (v := nI 0) dX3_notNow_244 (by decide) ?_
    refine r_callS (M' := mX3_kind) _ dX3_notNow_245 q3964 q3965 rfl (lw_all_tbl q3966) q138 (by exact pl_X3_kind)  ((k_kind (by omega))) (by omega) (Nat.le_of_ble_eq_true rfl) (by omega) (by omega) rfl (Nat.le_of_ble_eq_true rfl) rfl (kI fun r245 h245 n245 e245 => ?_) kN
    obtain ⟨rfl, rfl, rfl⟩ := e245
    exact r_ireturn dX3_notNow_248 rfl rfl (⟨by unfold notN; rfl, rfl, rfl⟩)
  · rw [e18]
    refine r_tableIn (off := 231) (tgt := 249) dX3_notNow_18 (by decide +kernel) (by decide +kernel) (by decide +kernel) (by decide) ?_
    refine r_iconst (v := nI 0) dX3_notNow_249 (by decide) ?_
    exact r_ireturn dX3_notNow_250 rfl rfl (⟨by unfold notN; rfl, rfl, rfl⟩)
theorem knd_0 {e f s t : Nat} (h : knd e f s t = 0) (hf : f ≠ 0) (hs : e = 2 → s ≠ 0) (ht : e = 3 → t ≠ 0) (he : e ≤ 3) : e = 0 := by
  unfold knd at h
  by_cases h0 : e = 0
  · exact h0
  · rw [if_neg h0] at h
    by_cases h1 : e = 1
    · rw [if_pos h1] at h; exact absurd h hf
    · rw [if_neg h1] at h
      by_cases h2 : e = 2
      · rw [if_pos h2] at h; exact absurd h (hs h2)
      · rw [if_neg h2] at h
        exact absurd h (ht (by omega))
theorem k_doesNow {so : Nat} {N : Nat → Nat} (hb : k_b K ≤ a) (m : mS a V R A h) (w : wB u (R 1)) (h21 : V 0 21 = nI so) (hs : srt so) (h8 : ∀ j, j < 2 → V 8 j = nI (N j)) (hu : u < 20000) (hN : N 0 ≤ 9999) (hN1 : so = 100 ∨ so = 109 ∨ so = 108 ∨ so = 112 → N 1 ≤ 9999) (h0 : notN (R 1) so N = 0) : g_Met K mX3_doesNow 8 0 0 [.ref a] h n (gI fun r h' n' => mS a V (up1 R 1 (dosR (R 1) so N)) (up1 A 1 (dosA (R 1) (A 1) so N)) h' ∧ mT a h h' ∧ n' = n) gN := by
  have b := w.b
  have n0 := h8 0 (by decide)
  have n1 := h8 1 (by decide)
  have z1 := eAd_b (ρ := R 1) (p := nI (N 0)) (q := nI (N 1))
  have z2 := eMx_b (ρ := R 1) (p := nI (N 0)) (q := nI (N 1))
  have z3 := eBo_b (ρ := R 1) (p := nI (N 0))
  have z4 := eLo_b (ρ := R 1) (p := nI (N 0)) (q := nI (N 1))
  have z5 := eSc_b (ρ := R 1) (p := nI (N 0))
  have z6 := ePo_b (ρ := R 1) (p := nI (N 0)) (q := nI (N 1))
  have z7 := eBa_b (ρ := R 1) (p := nI (N 0))
  have z8 := eOv_b (p := nI (N 0))
  have aid : ∀ {ρ : Nat → Nat} {h1 : g_P}, mS a V (up1 R 1 ρ) A h1 → mS a V (up1 R 1 ρ) (up1 A 1 (A 1)) h1 := fun m1 => m1.to rfl rfl up1_self.symm
  refine g_Met.of (M := mX3_doesNow) (L := [some (.ref a), none, none]) (by decide +kernel) (Nat.le_of_ble_eq_true rfl) rfl ?_
  refine r_aload0 dX3_doesNow_0 ?_
  refine f_X3_43_X3 dX3_doesNow_1 (by first | exact m.1 | exact m0.1 | exact m1.1 | exact m2.1 | exact m3.1 | assumption | exact g_us | (rw [g_un (by omega)]; assumption) | (rw [g_un (by omega)]; exact g_us) | (rw [g_un (by omega), g_un (by omega)]; assumption) | (rw [g_un (by omega), g_un (by omega)]; exact g_us) | (rw [g_un (by omega), g_un (by omega), g_un (by omega)]; assumption) | ((repeat (rw [g_un (by omega)])); first | exact m.1 | exact m0.1 | exact m1.1 | exact m2.1 | exact m3.1 | exact g_us | assumption)) ?_
  refine r_iconst (v := nI 0) dX3_doesNow_4 (by decide) ?_
  refine r_iaload (0) dX3_doesNow_5 m.nn rfl (by omega) (by rw [aI_at (by decide), n0]) ?_
  refine r_istore1 dX3_doesNow_6 ?_
  refine r_aload0 dX3_doesNow_7 ?_
  refine f_X3_43_X3 dX3_doesNow_8 (by first | exact m.1 | exact m0.1 | exact m1.1 | exact m2.1 | exact m3.1 | assumption | exact g_us | (rw [g_un (by omega)]; assumption) | (rw [g_un (by omega)]; exact g_us) | (rw [g_un (by omega), g_un (by omega)]; assumption) | (rw [g_un (by omega), g_un (by omega)]; exact g_us) | (rw [g_un (by omega), g_un (by omega), g_un (by omega)]; assumption) | ((repeat (rw [g_un (by omega)])); first | exact m.1 | exact m0.1 | exact m1.1 | exact m2.1 | exact m3.1 | exact g_us | assumption)) ?_
  refine r_iconst (v := nI 1) dX3_doesNow_11 (by decide) ?_
  refine r_iaload (1) dX3_doesNow_12 m.nn rfl (by omega) (by rw [aI_at (by decide), n1]) ?_
  refine r_istore2 dX3_doesNow_13 ?_
  refine r_aload0 dX3_doesNow_14 ?_
  refine f_X3_292_X3 dX3_doesNow_15 (by first | exact m.1 | exact m0.1 | exact m1.1 | exact m2.1 | exact m3.1 | assumption | exact g_us | (rw [g_un (by omega)]; assumption) | (rw [g_un (by omega)]; exact g_us) | (rw [g_un (by omega), g_un (by omega)]; assumption) | (rw [g_un (by omega), g_un (by omega)]; exact g_us) | (rw [g_un (by omega), g_un (by omega), g_un (by omega)]; assumption) | ((repeat (rw [g_un (by omega)])); first | exact m.1 | exact m0.1 | exact m1.1 | exact m2.1 | exact m3.1 | exact g_us | assumption)) ?_
  rw [h21]
  rcases hs with e18 | e18 | e18 | e18 | e18 | e18 | e18 | e18 | e18 | e18 | e18
  · rw [e18]
    refine r_tableIn (off := 86) (tgt := 104) dX3_doesNow_18 (by decide +kernel) (by decide +kernel) (by decide +kernel) (by decide) ?_
    rw [e18] at h0
    have hN1 := hN1 (by omega)
    have x1 := eAd_0 (knd_0 (show knd (eAd (R 1) (nI (N 0)) (nI (N 1))) 97 115 0 = 0 from h0) (by decide) (fun _ => by decide) (fun _ => by omega) (by omega))
    rw [bt_nI (by omega), bt_nI (by omega)] at x1
    refine r_aload0 dX3_doesNow_104 ?_
    refine r_iload1 dX3_doesNow_105 ?_
    refine r_iload2 dX3_doesNow_106 ?_
    refine r_callV (M' := mX3_makes) _ dX3_doesNow_107 q3505 q3507 qs61 rfl (lw_all_tbl q3508) q138 (by exact pl_X3_makes) gc_X3 (by first | exact m.1 | exact m0.1 | exact m1.1 | exact m2.1 | exact m3.1 | assumption | exact g_us | (rw [g_un (by omega)]; assumption) | (rw [g_un (by omega)]; exact g_us) | (rw [g_un (by omega), g_un (by omega)]; assumption) | (rw [g_un (by omega), g_un (by omega)]; exact g_us) | (rw [g_un (by omega), g_un (by omega), g_un (by omega)]; assumption) | ((repeat (rw [g_un (by omega)])); first | exact m.1 | exact m0.1 | exact m1.1 | exact m2.1 | exact m3.1 | exact g_us | assumption)) ((k_makes hb m w (by omega) (by omega) (by omega) (by omega))) (by omega) (Nat.le_of_ble_eq_true rfl) (by omega) (by omega) rfl (Nat.le_of_ble_eq_true rfl) rfl (kI fun r107 h107 n107 e107 => ?_) kN
    obtain ⟨rfl, m1, t1, rfl⟩ := e107
    exact r_ireturn dX3_doesNow_110 rfl rfl (⟨aid m1, t1, rfl⟩)
  · rw [e18]
    refine r_tableIn (off := 93) (tgt := 111) dX3_doesNow_18 (by decide +kernel) (by decide +kernel) (by decide +kernel) (by decide) ?_
    rw [e18] at h0
    have hN1 := hN1 (by omega)
    have x1 := eMx_0 (knd_0 (show knd (eMx (R 1) (nI (N 0)) (nI (N 1))) 105 97 117 = 0 from h0) (by decide) (fun _ => by decide) (fun _ => by decide) (by omega))
    rw [ix_nI (by omega), ix_nI (by omega)] at x1
    refine r_aload0 dX3_doesNow_111 ?_
    refine r_iload1 dX3_doesNow_112 ?_
    refine r_iload2 dX3_doesNow_113 ?_
    refine r_callV (M' := mX3_mixes) _ dX3_doesNow_114 q3540 q3542 qs68 rfl (lw_all_tbl q3543) q138 (by exact pl_X3_mixes) gc_X3 (by first | exact m.1 | exact m0.1 | exact m1.1 | exact m2.1 | exact m3.1 | assumption | exact g_us | (rw [g_un (by omega)]; assumption) | (rw [g_un (by omega)]; exact g_us) | (rw [g_un (by omega), g_un (by omega)]; assumption) | (rw [g_un (by omega), g_un (by omega)]; exact g_us) | (rw [g_un (by omega), g_un (by omega), g_un (by omega)]; assumption) | ((repeat (rw [g_un (by omega)])); first | exact m.1 | exact m0.1 | exact m1.1 | exact m2.1 | exact m3.1 | exact g_us | assumption)) ((k_mixes hb m w x1.1 x1.2.1 (fun y => x1.2.2.1 (by rw [y])))) (by omega) (Nat.le_of_ble_eq_true rfl) (by omega) (by omega) rfl (Nat.le_of_ble_eq_true rfl) rfl (kI fun r114 h114 n114 e114 => ?_) kN
    obtain ⟨rfl, m1, t1, rfl⟩ := e114
    exact r_ireturn dX3_doesNow_117 rfl rfl (⟨aid m1, t1, rfl⟩)
  · rw [e18]
    refine r_tableIn (off := 100) (tgt := 118) dX3_doesNow_18 (by decide +kernel) (by decide +kernel) (by decide +kernel) (by decide) ?_
    rw [e18] at h0
    have x1 := eBo_0 (knd_0 (show knd (eBo (R 1) (nI (N 0))) 97 115 0 = 0 from h0) (by decide) (fun _ => by decide) (fun _ => by omega) (by omega))
    refine r_aload0 dX3_doesNow_118 ?_
    refine r_iload1 dX3_doesNow_119 ?_
    refine r_callV (M' := mX3_buys) _ dX3_doesNow_120 q3552 q3554 qs70 rfl (lw_all_tbl q3555) q138 (by exact pl_X3_buys) gc_X3 (by first | exact m.1 | exact m0.1 | exact m1.1 | exact m2.1 | exact m3.1 | assumption | exact g_us | (rw [g_un (by omega)]; assumption) | (rw [g_un (by omega)]; exact g_us) | (rw [g_un (by omega), g_un (by omega)]; assumption) | (rw [g_un (by omega), g_un (by omega)]; exact g_us) | (rw [g_un (by omega), g_un (by omega), g_un (by omega)]; assumption) | ((repeat (rw [g_un (by omega)])); first | exact m.1 | exact m0.1 | exact m1.1 | exact m2.1 | exact m3.1 | exact g_us | assumption)) ((k_buys hb m w (by omega) (by omega))) (by omega) (Nat.le_of_ble_eq_true rfl) (by omega) (by omega) rfl (Nat.le_of_ble_eq_true rfl) rfl (kI fun r120 h120 n120 e120 => ?_) kN
    obtain ⟨rfl, m1, t1, rfl⟩ := e120
    exact r_ireturn dX3_doesNow_123 rfl rfl (⟨aid m1, t1, rfl⟩)
  · rw [e18]
    refine r_tableIn (off := 106) (tgt := 124) dX3_doesNow_18 (by decide +kernel) (by decide +kernel) (by decide +kernel) (by decide) ?_
    rw [e18] at h0
    have hN1 := hN1 (by omega)
    have x1 := eLo_0 (knd_0 (show knd (eLo (R 1) (nI (N 0)) (nI (N 1))) 97 115 0 = 0 from h0) (by decide) (fun _ => by decide) (fun _ => by omega) (by omega))
    refine r_aload0 dX3_doesNow_124 ?_
    refine r_iload1 dX3_doesNow_125 ?_
    refine r_iload2 dX3_doesNow_126 ?_
    refine r_callV (M' := mX3_forms) _ dX3_doesNow_127 q3564 q3566 qs72 rfl (lw_all_tbl q3567) q138 (by exact pl_X3_forms) gc_X3 (by first | exact m.1 | exact m0.1 | exact m1.1 | exact m2.1 | exact m3.1 | assumption | exact g_us | (rw [g_un (by omega)]; assumption) | (rw [g_un (by omega)]; exact g_us) | (rw [g_un (by omega), g_un (by omega)]; assumption) | (rw [g_un (by omega), g_un (by omega)]; exact g_us) | (rw [g_un (by omega), g_un (by omega), g_un (by omega)]; assumption) | ((repeat (rw [g_un (by omega)])); first | exact m.1 | exact m0.1 | exact m1.1 | exact m2.1 | exact m3.1 | exact g_us | assumption)) ((k_forms hb m w (by omega) (by omega) (by omega))) (by omega) (Nat.le_of_ble_eq_true rfl) (by omega) (by omega) rfl (Nat.le_of_ble_eq_true rfl) rfl (kI fun r127 h127 n127 e127 => ?_) kN
    obtain ⟨rfl, m1, t1, rfl⟩ := e127
    exact r_ireturn dX3_doesNow_130 rfl rfl (⟨aid m1, t1, rfl⟩)
  · rw [e18]
    refine r_tableIn (off := 113) (tgt := 131) dX3_doesNow_18 (by decide +kernel) (by decide +kernel) (by decide +kernel) (by decide) ?_
    rw [e18] at h0
    have x1 : ix (nI (N 0)) (R 1 2) := by
      have x : (if ix (nI (N 0)) (R 1 2) then 0 else 105) = 0 := h0
      exact Decidable.byContradiction fun z => by rw [if_neg z] at x; cases x
    rw [ix_nI (by omega)] at x1
    refine r_aload0 dX3_doesNow_131 ?_
    refine r_iload1 dX3_doesNow_132 ?_
    refine r_callV (M' := mX3_sells) _ dX3_doesNow_133 q3576 q3578 qs74 rfl (lw_all_tbl q3579) q138 (by exact pl_X3_sells) gc_X3 (by first | exact m.1 | exact m0.1 | exact m1.1 | exact m2.1 | exact m3.1 | assumption | exact g_us | (rw [g_un (by omega)]; assumption) | (rw [g_un (by omega)]; exact g_us) | (rw [g_un (by omega), g_un (by omega)]; assumption) | (rw [g_un (by omega), g_un (by omega)]; exact g_us) | (rw [g_un (by omega), g_un (by omega), g_un (by omega)]; assumption) | ((repeat (rw [g_un (by omega)])); first | exact m.1 | exact m0.1 | exact m1.1 | exact m2.1 | exact m3.1 | exact g_us | assumption)) ((k_sells hb m w x1)) (by omega) (Nat.le_of_ble_eq_true rfl) (by omega) (by omega) rfl (Nat.le_of_ble_eq_true rfl) rfl (kI fun r133 h133 n133 e133 => ?_) kN
    obtain ⟨rfl, m1, t1, rfl⟩ := e133
    exact r_ireturn dX3_doesNow_136 rfl rfl (⟨m1, t1, rfl⟩)
  · rw [e18]
    refine r_tableIn (off := 119) (tgt := 137) dX3_doesNow_18 (by decide +kernel) (by decide +kernel) (by decide +kernel) (by decide) ?_
    refine r_aload0 dX3_doesNow_137 ?_
    refine r_iconst (v := nI 3) dX3_doesNow_138 (by decide) ?_
    refine r_iload1 dX3_doesNow_139 ?_
    refine r_callV (M' := mX3_takes) _ dX3_doesNow_140 q3604 q3606 qs80 rfl (lw_all_tbl q3607) q138 (by exact pl_X3_takes) gc_X3 (by first | exact m.1 | exact m0.1 | exact m1.1 | exact m2.1 | exact m3.1 | assumption | exact g_us | (rw [g_un (by omega)]; assumption) | (rw [g_un (by omega)]; exact g_us) | (rw [g_un (by omega), g_un (by omega)]; assumption) | (rw [g_un (by omega), g_un (by omega)]; exact g_us) | (rw [g_un (by omega), g_un (by omega), g_un (by omega)]; assumption) | ((repeat (rw [g_un (by omega)])); first | exact m.1 | exact m0.1 | exact m1.1 | exact m2.1 | exact m3.1 | exact g_us | assumption)) ((k_takes hb m (by decide) (by decide) (by omega))) (by omega) (Nat.le_of_ble_eq_true rfl) (by omega) (by omega) rfl (Nat.le_of_ble_eq_true rfl) rfl (kI fun r140 h140 n140 e140 => ?_) kN
    obtain ⟨rfl, m1, t1, rfl⟩ := e140
    exact r_ireturn dX3_doesNow_143 rfl rfl (⟨aid m1, t1, rfl⟩)
  · rw [e18]
    refine r_tableIn (off := 126) (tgt := 144) dX3_doesNow_18 (by decide +kernel) (by decide +kernel) (by decide +kernel) (by decide) ?_
    rw [e18] at h0
    have hN1 := hN1 (by omega)
    have x1 := ePo_0 (knd_0 (show knd (ePo (R 1) (nI (N 0)) (nI (N 1))) 105 0 0 = 0 from h0) (by decide) (fun _ => by omega) (fun _ => by omega) (by omega))
    rw [ix_nI (by omega), ix_nI (by omega)] at x1
    refine r_aload0 dX3_doesNow_144 ?_
    refine r_iload1 dX3_doesNow_145 ?_
    refine r_iload2 dX3_doesNow_146 ?_
    refine r_callV (M' := mX3_pours) _ dX3_doesNow_147 q3627 q3629 qs83 rfl (lw_all_tbl q3630) q138 (by exact pl_X3_pours) gc_X3 (by first | exact m.1 | exact m0.1 | exact m1.1 | exact m2.1 | exact m3.1 | assumption | exact g_us | (rw [g_un (by omega)]; assumption) | (rw [g_un (by omega)]; exact g_us) | (rw [g_un (by omega), g_un (by omega)]; assumption) | (rw [g_un (by omega), g_un (by omega)]; exact g_us) | (rw [g_un (by omega), g_un (by omega), g_un (by omega)]; assumption) | ((repeat (rw [g_un (by omega)])); first | exact m.1 | exact m0.1 | exact m1.1 | exact m2.1 | exact m3.1 | exact g_us | assumption)) ((k_pours hb m w x1.1 x1.2)) (by omega) (Nat.le_of_ble_eq_true rfl) (by omega) (by omega) rfl (Nat.le_of_ble_eq_true rfl) rfl (kI fun r147 h147 n147 e147 => ?_) kN
    obtain ⟨rfl, m1, t1, rfl⟩ := e147
    exact r_ireturn dX3_doesNow_150 rfl rfl (⟨m1, t1, rfl⟩)
  · rw [e18]
    refine r_tableIn (off := 133) (tgt := 151) dX3_doesNow_18 (by decide +kernel) (by decide +kernel) (by decide +kernel) (by decide) ?_
    rw [e18] at h0
    have x1 : ix (nI (N 0)) (R 1 1) := by
      have x : (if ix (nI (N 0)) (R 1 1) then 0 else 105) = 0 := h0
      exact Decidable.byContradiction fun z => by rw [if_neg z] at x; cases x
    rw [ix_nI (by omega)] at x1
    refine r_aload0 dX3_doesNow_151 ?_
    refine r_iload1 dX3_doesNow_152 ?_
    refine r_callV (M' := mX3_empties) _ dX3_doesNow_153 q3648 q3650 qs87 rfl (lw_all_tbl q3651) q138 (by exact pl_X3_empties) gc_X3 (by first | exact m.1 | exact m0.1 | exact m1.1 | exact m2.1 | exact m3.1 | assumption | exact g_us | (rw [g_un (by omega)]; assumption) | (rw [g_un (by omega)]; exact g_us) | (rw [g_un (by omega), g_un (by omega)]; assumption) | (rw [g_un (by omega), g_un (by omega)]; exact g_us) | (rw [g_un (by omega), g_un (by omega), g_un (by omega)]; assumption) | ((repeat (rw [g_un (by omega)])); first | exact m.1 | exact m0.1 | exact m1.1 | exact m2.1 | exact m3.1 | exact g_us | assumption)) ((k_empties hb m w x1)) (by omega) (Nat.le_of_ble_eq_true rfl) (by omega) (by omega) rfl (Nat.le_of_ble_eq_true rfl) rfl (kI fun r153 h153 n153 e153 => ?_) kN
    obtain ⟨rfl, m1, t1, rfl⟩ := e153
    exact r_ireturn dX3_doesNow_156 rfl rfl (⟨m1, t1, rfl⟩)
  · rw [e18]
    refine r_tableIn (off := 139) (tgt := 157) dX3_doesNow_18 (by decide +kernel) (by decide +kernel) (by decide +kernel) (by decide) ?_
    rw [e18] at h0
    have x1 := eBa_0 (knd_0 (show knd (eBa (R 1) (nI (N 0))) 105 101 117 = 0 from h0) (by decide) (fun _ => by decide) (fun _ => by decide) (by omega))
    rw [ix_nI (by omega)] at x1
    refine r_aload0 dX3_doesNow_157 ?_
    refine r_iload1 dX3_doesNow_158 ?_
    refine r_callV (M' := mX3_bakes) _ dX3_doesNow_159 q3660 q3662 qs89 rfl (lw_all_tbl q3663) q138 (by exact pl_X3_bakes) gc_X3 (by first | exact m.1 | exact m0.1 | exact m1.1 | exact m2.1 | exact m3.1 | assumption | exact g_us | (rw [g_un (by omega)]; assumption) | (rw [g_un (by omega)]; exact g_us) | (rw [g_un (by omega), g_un (by omega)]; assumption) | (rw [g_un (by omega), g_un (by omega)]; exact g_us) | (rw [g_un (by omega), g_un (by omega), g_un (by omega)]; assumption) | ((repeat (rw [g_un (by omega)])); first | exact m.1 | exact m0.1 | exact m1.1 | exact m2.1 | exact m3.1 | exact g_us | assumption)) ((k_bakes hb m w hu x1.1)) (by omega) (Nat.le_of_ble_eq_true rfl) (by omega) (by omega) rfl (Nat.le_of_ble_eq_true rfl) rfl (kI fun r159 h159 n159 e159 => ?_) kN
    obtain ⟨rfl, m1, t1, rfl⟩ := e159
    exact r_ireturn dX3_doesNow_162 rfl rfl (⟨aid m1, t1, rfl⟩)
  · rw [e18]
    refine r_tableIn (off := 145) (tgt := 163) dX3_doesNow_18 (by decide +kernel) (by decide +kernel) (by decide +kernel) (by decide) ?_
    refine r_aload0 dX3_doesNow_163 ?_
    refine r_iconst (v := nI 5) dX3_doesNow_164 (by decide) ?_
    refine r_iload1 dX3_doesNow_165 ?_
    refine r_callV (M' := mX3_takes) _ dX3_doesNow_166 q3604 q3606 qs80 rfl (lw_all_tbl q3607) q138 (by exact pl_X3_takes) gc_X3 (by first | exact m.1 | exact m0.1 | exact m1.1 | exact m2.1 | exact m3.1 | assumption | exact g_us | (rw [g_un (by omega)]; assumption) | (rw [g_un (by omega)]; exact g_us) | (rw [g_un (by omega), g_un (by omega)]; assumption) | (rw [g_un (by omega), g_un (by omega)]; exact g_us) | (rw [g_un (by omega), g_un (by omega), g_un (by omega)]; assumption) | ((repeat (rw [g_un (by omega)])); first | exact m.1 | exact m0.1 | exact m1.1 | exact m2.1 | exact m3.1 | exact g_us | assumption)) ((k_takes hb m (by decide) (by decide) (by omega))) (by omega) (Nat.le_of_ble_eq_true rfl) (by omega) (by omega) rfl (Nat.le_of_ble_eq_true rfl) rfl (kI fun r166 h166 n166 e166 => ?_) kN
    obtain ⟨rfl, m1, t1, rfl⟩ := e166
    exact r_ireturn dX3_doesNow_169 rfl rfl (⟨aid m1, t1, rfl⟩)
  · rw [e18]
    refine r_tableIn (off := 152) (tgt := 170) dX3_doesNow_18 (by decide +kernel) (by decide +kernel) (by decide +kernel) (by decide) ?_
    refine r_aload0 dX3_doesNow_170 ?_
    refine r_iconst (v := nI 4) dX3_doesNow_171 (by decide) ?_
    refine r_iload1 dX3_doesNow_172 ?_
    refine r_callV (M' := mX3_takes) _ dX3_doesNow_173 q3604 q3606 qs80 rfl (lw_all_tbl q3607) q138 (by exact pl_X3_takes) gc_X3 (by first | exact m.1 | exact m0.1 | exact m1.1 | exact m2.1 | exact m3.1 | assumption | exact g_us | (rw [g_un (by omega)]; assumption) | (rw [g_un (by omega)]; exact g_us) | (rw [g_un (by omega), g_un (by omega)]; assumption) | (rw [g_un (by omega), g_un (by omega)]; exact g_us) | (rw [g_un (by omega), g_un (by omega), g_un (by omega)]; assumption) | ((repeat (rw [g_un (by omega)])); first | exact m.1 | exact m0.1 | exact m1.1 | exact m2.1 | exact m3.1 | exact g_us | assumption)) ((k_takes hb m (by decide) (by decide) (by omega))) (by omega) (Nat.le_of_ble_eq_true rfl) (by omega) (by omega) rfl (Nat.le_of_ble_eq_true rfl) rfl (kI fun r173 h173 n173 e173 => ?_) kN
    obtain ⟨rfl, m1, t1, rfl⟩ := e173
    exact r_ireturn dX3_doesNow_176 rfl rfl (⟨aid m1, t1, rfl⟩)
end
