/-! the reference's heap, and its smallest methods -/
set_option maxRecDepth 100000
/-- the fields of the reference at a: its arrays lie behind it -/
abbrev mF (a : Nat) (i : Nat → Int32) : List Value := [.int (i 0), .ref (a + 1), .ref (a + 2), .ref (a + 3), .ref (a + 4), .int (i 5), .int (i 6), .int (i 7), .int (i 8), .int (i 9), .int (i 10), .ref (a + 5), .ref (a + 6), .int (i 13), .ref (a + 7), .int (i 15), .int (i 16), .int (i 17), .int (i 18), .int (i 19), .ref (a + 8), .int (i 21), .int (i 22)]
/-- V 0: its int fields by their places; V 5..8: times, line, text, numbers; Y 1..4: w, undos, savedRow, before -/
def mR (a : Nat) (V : Nat → Nat → Int32) (Y : Nat → Nat → Int64) (h : g_P) : Prop :=
  h a = some (g_ob 2 (mF a (V 0))) ∧ h (a + 1) = some (g_ar 1 (aL 56 (Y 1))) ∧ h (a + 2) = some (g_ar 1 (aL 448 (Y 2))) ∧ h (a + 3) = some (g_ar 1 (aL 56 (Y 3))) ∧ h (a + 4) = some (g_ar 1 (aL 56 (Y 4))) ∧
  h (a + 5) = some (g_ar 0 (aI 3 (V 5))) ∧ h (a + 6) = some (g_ar 3 (aI 60 (V 6))) ∧ h (a + 7) = some (g_ar 3 (aI 60 (V 7))) ∧ h (a + 8) = some (g_ar 0 (aI 2 (V 8)))
/-- only the reference has changed -/
def mT (a : Nat) (h h' : g_P) : Prop := ∀ q : Nat, (q < a ∨ a + 8 < q) → h' q = h q
theorem mT.rf {a : Nat} {h : g_P} : mT a h h := fun _ _ => rfl
theorem mT.tr {a : Nat} {h h1 h2 : g_P} (x : mT a h h1) (y : mT a h1 h2) : mT a h h2 := fun q hq => (y q hq).trans (x q hq)
theorem mT.up {a k : Nat} {h : g_P} {c : g_C} (hk : k ≤ 8) : mT a h (g_up h (a + k) c) := fun q hq => g_un (by omega)
def up2 {α : Type} (Y : Nat → Nat → α) (c j : Nat) (x : α) : Nat → Nat → α := fun c' => if c' = c then fup (Y c) j x else Y c'
theorem up2_s {α : Type} {Y : Nat → Nat → α} {c j : Nat} {x : α} : up2 Y c j x c = fup (Y c) j x := by simp [up2]
theorem up2_n {α : Type} {Y : Nat → Nat → α} {c c' j : Nat} {x : α} (h : c' ≠ c) : up2 Y c j x c' = Y c' := by simp [up2, h]
/-- a whole row replaced -/
def up1 {α : Type} (Y : Nat → Nat → α) (c : Nat) (f : Nat → α) : Nat → Nat → α := fun c' => if c' = c then f else Y c'
theorem up1_s {α : Type} {Y : Nat → Nat → α} {c : Nat} {f : Nat → α} : up1 Y c f c = f := by simp [up1]
theorem up1_n {α : Type} {Y : Nat → Nat → α} {c c' : Nat} {f : Nat → α} (h : c' ≠ c) : up1 Y c f c' = Y c' := by simp [up1, h]
theorem up2_up1 {α : Type} {Y : Nat → Nat → α} {c j : Nat} {x : α} : up2 Y c j x = up1 Y c (fup (Y c) j x) := rfl
theorem up1_up1 {α : Type} {Y : Nat → Nat → α} {c : Nat} {f g : Nat → α} : up1 (up1 Y c f) c g = up1 Y c g := by
  funext c'
  by_cases h : c' = c <;> simp [up1, h]
theorem up1_self {α : Type} {Y : Nat → Nat → α} {c : Nat} : up1 Y c (Y c) = Y := by
  funext c'
  by_cases h : c' = c <;> simp [up1, h]
section
variable {a : Nat} {V : Nat → Nat → Int32} {Y : Nat → Nat → Int64} {h : g_P}
/-- the object replaced -/
theorem mR.o {i : Nat → Int32} {c : g_C} (m : mR a V Y h) (e : c = g_ob 2 (mF a i)) : mR a (up1 V 0 i) Y (g_up h a c) := by
  obtain ⟨m0, m1, m2, m3, m4, m5, m6, m7, m8⟩ := m
  subst e
  refine ⟨?_, ?_, ?_, ?_, ?_, ?_, ?_, ?_, ?_⟩
  · rw [g_us, up1_s]
  · rw [g_un (by omega)]; exact m1
  · rw [g_un (by omega)]; exact m2
  · rw [g_un (by omega)]; exact m3
  · rw [g_un (by omega)]; exact m4
  · rw [g_un (by omega), up1_n (by decide)]; exact m5
  · rw [g_un (by omega), up1_n (by decide)]; exact m6
  · rw [g_un (by omega), up1_n (by decide)]; exact m7
  · rw [g_un (by omega), up1_n (by decide)]; exact m8
theorem mR.w {f : Nat → Int64} {c : g_C} (m : mR a V Y h) (e : c = g_ar 1 (aL 56 f)) : mR a V (up1 Y 1 f) (g_up h (a + 1) c) := by
  obtain ⟨m0, m1, m2, m3, m4, m5, m6, m7, m8⟩ := m
  subst e
  refine ⟨?_, ?_, ?_, ?_, ?_, ?_, ?_, ?_, ?_⟩ <;> first | (rw [g_us, up1_s]) | (rw [g_un (by omega), up1_n (by decide)]; assumption) | (rw [g_un (by omega)]; assumption)
theorem mR.u {f : Nat → Int64} {c : g_C} (m : mR a V Y h) (e : c = g_ar 1 (aL 448 f)) : mR a V (up1 Y 2 f) (g_up h (a + 2) c) := by
  obtain ⟨m0, m1, m2, m3, m4, m5, m6, m7, m8⟩ := m
  subst e
  refine ⟨?_, ?_, ?_, ?_, ?_, ?_, ?_, ?_, ?_⟩ <;> first | (rw [g_us, up1_s]) | (rw [g_un (by omega), up1_n (by decide)]; assumption) | (rw [g_un (by omega)]; assumption)
theorem mR.s {f : Nat → Int64} {c : g_C} (m : mR a V Y h) (e : c = g_ar 1 (aL 56 f)) : mR a V (up1 Y 3 f) (g_up h (a + 3) c) := by
  obtain ⟨m0, m1, m2, m3, m4, m5, m6, m7, m8⟩ := m
  subst e
  refine ⟨?_, ?_, ?_, ?_, ?_, ?_, ?_, ?_, ?_⟩ <;> first | (rw [g_us, up1_s]) | (rw [g_un (by omega), up1_n (by decide)]; assumption) | (rw [g_un (by omega)]; assumption)
theorem mR.b {f : Nat → Int64} {c : g_C} (m : mR a V Y h) (e : c = g_ar 1 (aL 56 f)) : mR a V (up1 Y 4 f) (g_up h (a + 4) c) := by
  obtain ⟨m0, m1, m2, m3, m4, m5, m6, m7, m8⟩ := m
  subst e
  refine ⟨?_, ?_, ?_, ?_, ?_, ?_, ?_, ?_, ?_⟩ <;> first | (rw [g_us, up1_s]) | (rw [g_un (by omega), up1_n (by decide)]; assumption) | (rw [g_un (by omega)]; assumption)
theorem mR.t {f : Nat → Int32} {c : g_C} (m : mR a V Y h) (e : c = g_ar 0 (aI 3 f)) : mR a (up1 V 5 f) Y (g_up h (a + 5) c) := by
  obtain ⟨m0, m1, m2, m3, m4, m5, m6, m7, m8⟩ := m
  subst e
  refine ⟨?_, ?_, ?_, ?_, ?_, ?_, ?_, ?_, ?_⟩ <;> first | (rw [g_us, up1_s]) | (rw [g_un (by omega), up1_n (by decide)]; assumption) | (rw [g_un (by omega)]; assumption)
theorem mR.l {f : Nat → Int32} {c : g_C} (m : mR a V Y h) (e : c = g_ar 3 (aI 60 f)) : mR a (up1 V 6 f) Y (g_up h (a + 6) c) := by
  obtain ⟨m0, m1, m2, m3, m4, m5, m6, m7, m8⟩ := m
  subst e
  refine ⟨?_, ?_, ?_, ?_, ?_, ?_, ?_, ?_, ?_⟩ <;> first | (rw [g_us, up1_s]) | (rw [g_un (by omega), up1_n (by decide)]; assumption) | (rw [g_un (by omega)]; assumption)
theorem mR.x {f : Nat → Int32} {c : g_C} (m : mR a V Y h) (e : c = g_ar 3 (aI 60 f)) : mR a (up1 V 7 f) Y (g_up h (a + 7) c) := by
  obtain ⟨m0, m1, m2, m3, m4, m5, m6, m7, m8⟩ := m
  subst e
  refine ⟨?_, ?_, ?_, ?_, ?_, ?_, ?_, ?_, ?_⟩ <;> first | (rw [g_us, up1_s]) | (rw [g_un (by omega), up1_n (by decide)]; assumption) | (rw [g_un (by omega)]; assumption)
theorem mR.n {f : Nat → Int32} {c : g_C} (m : mR a V Y h) (e : c = g_ar 0 (aI 2 f)) : mR a (up1 V 8 f) Y (g_up h (a + 8) c) := by
  obtain ⟨m0, m1, m2, m3, m4, m5, m6, m7, m8⟩ := m
  subst e
  refine ⟨?_, ?_, ?_, ?_, ?_, ?_, ?_, ?_, ?_⟩ <;> first | (rw [g_us, up1_s]) | (rw [g_un (by omega), up1_n (by decide)]; assumption) | (rw [g_un (by omega)]; assumption)
theorem mR.to {V' : Nat → Nat → Int32} {Y' : Nat → Nat → Int64} (m : mR a V Y h) (e1 : V = V') (e2 : Y = Y') : mR a V' Y' h := by
  subst e1; subst e2; exact m
end
/-- the rows of the reference: w 1, savedRow 3, before 4, the undos from 10 on -/
def Yo (R : Nat → Nat → Nat) (A : Nat → Nat → Int64) : Nat → Nat → Int64 := fun c => if c = 2 then (fun q => rw_ (R (10 + q / 56)) (A (10 + q / 56)) (q % 56)) else if c < 10 then rw_ (R c) (A c) else fun _ => lN 0
theorem Yo_n {R : Nat → Nat → Nat} {A : Nat → Nat → Int64} {c : Nat} (h : c ≠ 2) (h2 : c < 10) : Yo R A c = rw_ (R c) (A c) := by
  unfold Yo
  rw [if_neg h, if_pos h2]
theorem Yo_2 {R : Nat → Nat → Nat} {A : Nat → Nat → Int64} : Yo R A 2 = fun q => rw_ (R (10 + q / 56)) (A (10 + q / 56)) (q % 56) := by
  unfold Yo
  rw [if_pos rfl]
theorem Yo_f {R : Nat → Nat → Nat} {A : Nat → Nat → Int64} {c : Nat} (h2 : ¬ c < 10) : Yo R A c = fun _ => lN 0 := by
  unfold Yo
  rw [if_neg (by omega), if_neg h2]
theorem Yo_up {R : Nat → Nat → Nat} {A : Nat → Nat → Int64} {c : Nat} {ρ : Nat → Nat} {α : Nat → Int64} (h : c ≠ 2) (h2 : c < 10) : up1 (Yo R A) c (rw_ ρ α) = Yo (up1 R c ρ) (up1 A c α) := by
  funext c'
  by_cases h3 : c' = 2
  · subst h3
    rw [up1_n (Ne.symm h), Yo_2, Yo_2]
    funext q
    rw [up1_n (by omega), up1_n (by omega)]
  · by_cases h5 : c' < 10
    · rw [Yo_n h3 h5]
      by_cases h4 : c' = c
      · subst h4
        rw [up1_s, up1_s, up1_s]
      · rw [up1_n h4, up1_n h4, up1_n h4, Yo_n h3 h5]
    · rw [Yo_f h5, up1_n (by omega), Yo_f h5]
theorem Yo_u {R : Nat → Nat → Nat} {A : Nat → Nat → Int64} {f : Nat → Int64} {to : Nat} {ρ : Nat → Nat} {α : Nat → Int64} (e : ∀ q, f q = if q / 56 = to then rw_ ρ α (q % 56) else Yo R A 2 q) : up1 (Yo R A) 2 f = Yo (up1 R (10 + to) ρ) (up1 A (10 + to) α) := by
  funext c'
  by_cases h3 : c' = 2
  · subst h3
    rw [up1_s, Yo_2]
    funext q
    rw [e q]
    by_cases h : q / 56 = to
    · rw [if_pos h, h, up1_s, up1_s]
    · rw [if_neg h, Yo_2, up1_n (by omega), up1_n (by omega)]
  · by_cases h5 : c' < 10
    · rw [up1_n h3, Yo_n h3 h5, Yo_n h3 h5, up1_n (by omega), up1_n (by omega)]
    · rw [Yo_f h5, up1_n h3, Yo_f h5]
/-- the reference with the rows R, A -/
def mS (a : Nat) (V : Nat → Nat → Int32) (R : Nat → Nat → Nat) (A : Nat → Nat → Int64) (h : g_P) : Prop := mR a V (Yo R A) h
theorem mS.w {a : Nat} {V : Nat → Nat → Int32} {R : Nat → Nat → Nat} {A : Nat → Nat → Int64} {h : g_P} (m : mS a V R A h) : h (a + 1) = some (g_ar 1 (aL 56 (rw_ (R 1) (A 1)))) := by
  have := m.2.1
  rw [Yo_n (by decide) (by decide)] at this
  exact this
/-- a number of w changed -/
theorem mS.ww {a q v : Nat} {V : Nat → Nat → Int32} {R : Nat → Nat → Nat} {A : Nat → Nat → Int64} {h : g_P} {c : g_C} (m : mS a V R A h) (hq : q < 6 ∨ 10 ≤ q) (e : c = g_ar 1 ((aL 56 (rw_ (R 1) (A 1))).set q (.long (lN v)))) : mS a V (up1 R 1 (fup (R 1) q v)) A (g_up h (a + 1) c) := by
  have := mR.w (c := c) (f := rw_ (fup (R 1) q v) (A 1)) m (by rw [e, aL_set, rw_up hq])
  rw [Yo_up (by decide) (by decide), up1_self] at this
  exact this
/-- an account changed -/
theorem mS.wa {a q : Nat} {x : Int64} {V : Nat → Nat → Int32} {R : Nat → Nat → Nat} {A : Nat → Nat → Int64} {h : g_P} {c : g_C} (m : mS a V R A h) (h1 : 6 ≤ q) (h2 : q < 10) (e : c = g_ar 1 ((aL 56 (rw_ (R 1) (A 1))).set q (.long x))) : mS a V R (up1 A 1 (fup (A 1) q x)) (g_up h (a + 1) c) := by
  have := mR.w (c := c) (f := rw_ (R 1) (fup (A 1) q x)) m (by rw [e, aL_set, rw_ua h1 h2])
  rw [Yo_up (by decide) (by decide), up1_self] at this
  exact this
theorem mS.w2 {a q v : Nat} {V : Nat → Nat → Int32} {R : Nat → Nat → Nat} {A : Nat → Nat → Int64} {ρ : Nat → Nat} {h : g_P} {c : g_C} (m : mS a V (up1 R 1 ρ) A h) (hq : q < 6 ∨ 10 ≤ q) (e : c = g_ar 1 ((aL 56 (rw_ (up1 R 1 ρ 1) (A 1))).set q (.long (lN v)))) : mS a V (up1 R 1 (fup ρ q v)) A (g_up h (a + 1) c) := by
  have := m.ww hq e
  rw [up1_s, up1_up1] at this
  exact this
theorem mS.oo {a : Nat} {V : Nat → Nat → Int32} {R : Nat → Nat → Nat} {A : Nat → Nat → Int64} {h : g_P} {i : Nat → Int32} {c : g_C} (m : mS a V R A h) (e : c = g_ob 2 (mF a i)) : mS a (up1 V 0 i) R A (g_up h a c) := mR.o m e
theorem mS.to {a : Nat} {V V' : Nat → Nat → Int32} {R R' : Nat → Nat → Nat} {A A' : Nat → Nat → Int64} {h : g_P} (m : mS a V R A h) (e1 : V = V') (e2 : R = R') (e3 : A = A') : mS a V' R' A' h := by
  subst e1; subst e2; subst e3; exact m
section
variable {K : g_K} {a n : Nat} {V : Nat → Nat → Int32} {R : Nat → Nat → Nat} {A : Nat → Nat → Int64} {h : g_P}
theorem k_thrown (m : mS a V R A h) : g_Met K mX3_thrown 1 0 0 [.ref a] h n (gI fun r h' n' => r = V 0 0 ∧ h' = h ∧ n' = n) gN := by
  refine g_Met.of (M := mX3_thrown) (L := [some (.ref a)]) (by decide +kernel) (Nat.le_of_ble_eq_true rfl) rfl ?_
  refine r_aload0 dX3_thrown_0 ?_
  refine f_X3_1_X3 dX3_thrown_1 m.1 ?_
  exact r_ireturn dX3_thrown_4 rfl rfl (⟨rfl, rfl, rfl⟩)
theorem k_fails {x : Int32} (hb : k_b K ≤ a) (m : mS a V R A h) : g_Met K mX3_fails 1 0 0 [.ref a, .int x] h n (gI fun r h' n' => r = nI 0 ∧ mS a (up1 V 0 (fup (V 0) 0 x)) R A h' ∧ mT a h h' ∧ n' = n) gN := by
  refine g_Met.of (M := mX3_fails) (L := [some (.ref a), some (.int x)]) (by decide +kernel) (Nat.le_of_ble_eq_true rfl) rfl ?_
  refine r_aload0 dX3_fails_0 ?_
  refine r_iload1 dX3_fails_1 ?_
  refine p_X3_1_X3 dX3_fails_2 (by omega) m.1 ?_
  refine r_iconst (v := nI 0) dX3_fails_5 (by decide) ?_
  exact r_ireturn dX3_fails_6 rfl rfl (⟨rfl, m.oo rfl, mT.up (k := 0) (by omega), rfl⟩)
theorem k_isBetween {v lo hi : Int32} : g_Met K mX3_isBetween 1 0 0 [.int v, .int lo, .int hi] h n (gI fun r h' n' => r = nB (lo ≤ v ∧ v ≤ hi) ∧ h' = h ∧ n' = n) gN := by
  refine g_Met.of (M := mX3_isBetween) (L := [some (.int v), some (.int lo), some (.int hi)]) (by decide +kernel) (Nat.le_of_ble_eq_true rfl) rfl ?_
  refine r_iload1 dX3_isBetween_0 ?_
  refine r_iload0 dX3_isBetween_1 ?_
  refine r_icmp_gt (tgt := 14) dX3_isBetween_2 (by decide) (fun c2 => ?_) (fun c2 => ?_)
  · refine r_iconst (v := nI 0) dX3_isBetween_14 (by decide) ?_
    exact r_ireturn dX3_isBetween_15 rfl (by first | exact nB_nar | rfl) (⟨nB_f (fun q => absurd q.1 (by simpa using c2)), rfl, rfl⟩)
  · refine r_iload0 dX3_isBetween_5 ?_
    refine r_iload2 dX3_isBetween_6 ?_
    refine r_icmp_gt (tgt := 14) dX3_isBetween_7 (by decide) (fun c7 => ?_) (fun c7 => ?_)
    · refine r_iconst (v := nI 0) dX3_isBetween_14 (by decide) ?_
      exact r_ireturn dX3_isBetween_15 rfl (by first | exact nB_nar | rfl) (⟨nB_f (fun q => absurd q.2 (by simpa using c7)), rfl, rfl⟩)
    · refine r_iconst (v := nI 1) dX3_isBetween_10 (by decide) ?_
      refine r_goto (tgt := 15) dX3_isBetween_11 (by decide) ?_
      exact r_ireturn dX3_isBetween_15 rfl (by first | exact nB_nar | rfl) (⟨nB_t ⟨by simpa using c2, by simpa using c7⟩, rfl, rfl⟩)
theorem k_bt {v : Int32} {lo hi : Nat} (h1 : lo < 2147483648) (h2 : hi < 2147483648) : g_Met K mX3_isBetween 1 0 0 [.int v, .int (nI lo), .int (nI hi)] h n (gI fun r h' n' => r = nB (bt v lo hi) ∧ h' = h ∧ n' = n) gN := by
  have := k_isBetween (K := K) (n := n) (h := h) (v := v) (lo := nI lo) (hi := nI hi)
  rw [nB_iff (bt_iff h1 h2)] at this
  exact this
theorem k_ix {v : Int32} {hi : Int32} {k : Nat} (h1 : k < 2147483648) (e : hi = nI k - nI 1) : g_Met K mX3_isBetween 1 0 0 [.int v, .int (nI 0), .int hi] h n (gI fun r h' n' => r = nB (ix v k) ∧ h' = h ∧ n' = n) gN := by
  have := k_isBetween (K := K) (n := n) (h := h) (v := v) (lo := nI 0) (hi := hi)
  rw [e, nB_iff (ix_iff h1)] at this
  rw [e]
  exact this
theorem k_at {k : Nat} (m : mS a V R A h) (hk : k < 56) (h2 : k < 6 ∨ 10 ≤ k) : g_Met K mX3_at 1 0 0 [.ref a, .int (nI k)] h n (gI fun r h' n' => r = nI (R 1 k) ∧ h' = h ∧ n' = n) gN := by
  refine g_Met.of (M := mX3_at) (L := [some (.ref a), some (.int (nI k))]) (by decide +kernel) (Nat.le_of_ble_eq_true rfl) rfl ?_
  refine r_aload0 dX3_at_0 ?_
  refine f_X3_13_X3 dX3_at_1 m.1 ?_
  refine r_iload1 dX3_at_4 ?_
  refine r_laload (k) dX3_at_5 m.w rfl (by omega) (by rw [aL_at hk, rw_at h2]) ?_
  refine r_l2i dX3_at_6 (l2i_lN _) ?_
  exact r_ireturn dX3_at_7 rfl rfl (⟨rfl, rfl, rfl⟩)
end
theorem mR.row4 {a : Nat} {V : Nat → Nat → Int32} {Y : Nat → Nat → Int64} {h : g_P} {f g : Nat → Int64} (m : mR a V (up1 Y 4 f) h) (e : ∀ q, q < 56 → f q = g q) : mR a V (up1 Y 4 g) h := by
  obtain ⟨m0, m1, m2, m3, m4, m5, m6, m7, m8⟩ := m
  rw [up1_s, aL_ext e] at m4
  exact ⟨m0, m1, m2, m3, by rw [up1_s]; exact m4, m5, m6, m7, m8⟩
theorem mR.row1 {a : Nat} {V : Nat → Nat → Int32} {Y : Nat → Nat → Int64} {h : g_P} {f g : Nat → Int64} (m : mR a V (up1 Y 1 f) h) (e : ∀ q, q < 56 → f q = g q) : mR a V (up1 Y 1 g) h := by
  obtain ⟨m0, m1, m2, m3, m4, m5, m6, m7, m8⟩ := m
  rw [up1_s, aL_ext e] at m1
  exact ⟨m0, by rw [up1_s]; exact m1, m2, m3, m4, m5, m6, m7, m8⟩
/-- f below k, g from k on -/
def mxf {α : Type} (f g : Nat → α) (k : Nat) : Nat → α := fun q => if q < k then f q else g q
theorem mxf_0 {α : Type} {f g : Nat → α} : mxf f g 0 = g := by
  funext q
  simp [mxf]
theorem mxf_s {α : Type} {f g : Nat → α} {k : Nat} : fup (mxf f g k) k (f k) = mxf f g (k + 1) := by
  funext q
  by_cases h : q = k
  · subst h
    simp [fup, mxf]
  · have : q < k + 1 ↔ q < k := by omega
    simp [fup, mxf, h, this]
theorem mxf_at {α : Type} {f g : Nat → α} {k q : Nat} (h : ¬ q < k) : mxf f g k q = g q := by simp [mxf, h]
section
variable {K : g_K} {a n : Nat} {V : Nat → Nat → Int32} {Y : Nat → Nat → Int64} {h : g_P}
theorem k_copies0 (hb : k_b K ≤ a) (m : mR a V Y h) : g_Met K mX3_copies 1 0 0 [.ref a] h n (gV fun h' n' => mR a V (up1 Y 4 (Y 1)) h' ∧ mT a h h' ∧ n' = n) gN := by
  refine g_Met.of (M := mX3_copies) (L := [some (.ref a), none]) (by decide +kernel) (Nat.le_of_ble_eq_true rfl) rfl ?_
  have loop : ∀ (j k : Nat) (h1 : g_P), k + j = 56 → mR a V (up1 Y 4 (mxf (Y 1) (Y 4) k)) h1 → mT a h h1 → g_G K mX3_copies 1 0 0 (gV fun h' n' => mR a V (up1 Y 4 (Y 1)) h' ∧ mT a h h' ∧ n' = n) gN 2 [some (.ref a), some (.int (nI k))] [] h1 n := by
    intro j
    induction j with
    | zero =>
      intro k h1 hk m1 t1
      have hk : k = 56 := by omega
      subst hk
      refine r_iload1 dX3_copies_2 ?_
      refine r_bipush (v := nI 56) dX3_copies_3 (by decide) ?_
      refine r_icmp_geN (tgt := 26) dX3_copies_5 (by decide) (by omega) (by omega) (fun c5 => ?_) (fun c5 => absurd c5 (by omega))
      exact r_return dX3_copies_26 rfl (⟨m1.row4 (fun q hq => by simp [mxf, hq]), t1, rfl⟩)
    | succ j ih =>
      intro k h1 hk m1 t1
      refine r_iload1 dX3_copies_2 ?_
      refine r_bipush (v := nI 56) dX3_copies_3 (by decide) ?_
      refine r_icmp_geN (tgt := 26) dX3_copies_5 (by decide) (by omega) (by omega) (fun c5 => absurd c5 (by omega)) (fun c5 => ?_)
      refine r_aload0 dX3_copies_8 ?_
      refine f_X3_23_X3 dX3_copies_9 m1.1 ?_
      refine r_iload1 dX3_copies_12 ?_
      refine r_aload0 dX3_copies_13 ?_
      refine f_X3_13_X3 dX3_copies_14 m1.1 ?_
      refine r_iload1 dX3_copies_17 ?_
      refine r_laload (k) dX3_copies_18 (by rw [m1.2.1, up1_n (by decide)]) rfl (by omega) (aL_at (by omega)) ?_
      refine r_lastore (k) dX3_copies_19 (by omega) (by rw [m1.2.2.2.2.1, up1_s]) rfl (by omega) (by rw [aL_len]; omega) ?_
      refine r_iinc1 dX3_copies_20 (ii1 _) ?_
      refine r_goto (tgt := 2) dX3_copies_23 (by decide) ?_
      exact ih (k + 1) _ (by omega) ((m1.b (f := mxf (Y 1) (Y 4) (k + 1)) (by rw [aL_set, mxf_s])).to rfl up1_up1) (t1.tr (mT.up (by omega)))
  refine r_iconst (v := nI 0) dX3_copies_0 (by decide) ?_
  refine r_istore1 dX3_copies_1 ?_
  exact loop 56 0 h rfl (m.to rfl (by rw [mxf_0, up1_self])) mT.rf
theorem k_goesBack0 (hb : k_b K ≤ a) (m : mR a V Y h) : g_Met K mX3_goesBack 1 0 0 [.ref a] h n (gV fun h' n' => mR a V (up1 Y 1 (Y 4)) h' ∧ mT a h h' ∧ n' = n) gN := by
  refine g_Met.of (M := mX3_goesBack) (L := [some (.ref a), none]) (by decide +kernel) (Nat.le_of_ble_eq_true rfl) rfl ?_
  have loop : ∀ (j k : Nat) (h1 : g_P), k + j = 56 → mR a V (up1 Y 1 (mxf (Y 4) (Y 1) k)) h1 → mT a h h1 → g_G K mX3_goesBack 1 0 0 (gV fun h' n' => mR a V (up1 Y 1 (Y 4)) h' ∧ mT a h h' ∧ n' = n) gN 2 [some (.ref a), some (.int (nI k))] [] h1 n := by
    intro j
    induction j with
    | zero =>
      intro k h1 hk m1 t1
      have hk : k = 56 := by omega
      subst hk
      refine r_iload1 dX3_goesBack_2 ?_
      refine r_bipush (v := nI 56) dX3_goesBack_3 (by decide) ?_
      refine r_icmp_geN (tgt := 26) dX3_goesBack_5 (by decide) (by omega) (by omega) (fun c5 => ?_) (fun c5 => absurd c5 (by omega))
      exact r_return dX3_goesBack_26 rfl (⟨m1.row1 (fun q hq => by simp [mxf, hq]), t1, rfl⟩)
    | succ j ih =>
      intro k h1 hk m1 t1
      refine r_iload1 dX3_goesBack_2 ?_
      refine r_bipush (v := nI 56) dX3_goesBack_3 (by decide) ?_
      refine r_icmp_geN (tgt := 26) dX3_goesBack_5 (by decide) (by omega) (by omega) (fun c5 => absurd c5 (by omega)) (fun c5 => ?_)
      refine r_aload0 dX3_goesBack_8 ?_
      refine f_X3_13_X3 dX3_goesBack_9 m1.1 ?_
      refine r_iload1 dX3_goesBack_12 ?_
      refine r_aload0 dX3_goesBack_13 ?_
      refine f_X3_23_X3 dX3_goesBack_14 m1.1 ?_
      refine r_iload1 dX3_goesBack_17 ?_
      refine r_laload (k) dX3_goesBack_18 (by rw [m1.2.2.2.2.1, up1_n (by decide)]) rfl (by omega) (aL_at (by omega)) ?_
      refine r_lastore (k) dX3_goesBack_19 (by omega) (by rw [m1.2.1, up1_s]) rfl (by omega) (by rw [aL_len]; omega) ?_
      refine r_iinc1 dX3_goesBack_20 (ii1 _) ?_
      refine r_goto (tgt := 2) dX3_goesBack_23 (by decide) ?_
      exact ih (k + 1) _ (by omega) ((m1.w (f := mxf (Y 4) (Y 1) (k + 1)) (by rw [aL_set, mxf_s])).to rfl up1_up1) (t1.tr (mT.up (by omega)))
  refine r_iconst (v := nI 0) dX3_goesBack_0 (by decide) ?_
  refine r_istore1 dX3_goesBack_1 ?_
  exact loop 56 0 h rfl (m.to rfl (by rw [mxf_0, up1_self])) mT.rf
end
theorem fup_id {α : Type} {f : Nat → α} {j : Nat} {x : α} (e : f j = x) : fup f j x = f := by
  funext q
  by_cases h : q = j
  · subst h; rw [fup_s, e]
  · rw [fup_n h]
/-- the ring of the undos -/
def rgf (c f : Nat) : Nat := if c = 8 then (f + 1) % 8 else f
def rgc (c : Nat) : Nat := if c = 8 then 7 else c
/-- f in the block to, below k; else g -/
def mxb {α : Type} (f g : Nat → α) (to k : Nat) : Nat → α := fun q => if q / 56 = to ∧ q % 56 < k then f (q % 56) else g q
theorem mxb_0 {α : Type} {f g : Nat → α} {to : Nat} : mxb f g to 0 = g := by
  funext q
  simp [mxb]
theorem mxb_s {α : Type} {f g : Nat → α} {to k : Nat} (hk : k < 56) : fup (mxb f g to k) (56 * to + k) (f k) = mxb f g to (k + 1) := by
  funext q
  by_cases h : q = 56 * to + k
  · subst h
    have e1 : (56 * to + k) / 56 = to := by omega
    have e2 : (56 * to + k) % 56 = k := by omega
    simp [fup, mxb, e1, e2]
  · rw [fup_n h]
    unfold mxb
    by_cases h1 : q / 56 = to ∧ q % 56 < k
    · rw [if_pos h1, if_pos ⟨h1.1, by omega⟩]
    · rw [if_neg h1, if_neg (fun z => h1 ⟨z.1, by omega⟩)]
section
variable {K : g_K} {a n : Nat} {V : Nat → Nat → Int32} {Y : Nat → Nat → Int64} {h : g_P}
theorem k_keeps0 {c f : Nat} (hb : k_b K ≤ a) (m : mR a V Y h) (hc : V 0 5 = nI c) (hf : V 0 6 = nI f) (hc8 : c ≤ 8) (hf8 : f < 8) : g_Met K mX3_keeps 1 0 0 [.ref a] h n (gV fun h' n' => mR a (up1 V 0 (fup (fup (V 0) 6 (nI (rgf c f))) 5 (nI (rgc c + 1)))) (up1 Y 2 (mxb (Y 4) (Y 2) ((rgf c f + rgc c) % 8) 56)) h' ∧ mT a h h' ∧ n' = n) gN := by
  refine g_Met.of (M := mX3_keeps) (L := [some (.ref a), none, none]) (by decide +kernel) (Nat.le_of_ble_eq_true rfl) rfl ?_
  have rf : rgf c f < 8 := by unfold rgf; split <;> omega
  have rc : rgc c < 8 := by unfold rgc; split <;> omega
  have loop : ∀ (j k : Nat) (h1 : g_P), k + j = 56 → mR a (up1 V 0 (fup (fup (V 0) 6 (nI (rgf c f))) 5 (nI (rgc c)))) (up1 Y 2 (mxb (Y 4) (Y 2) ((rgf c f + rgc c) % 8) k)) h1 → mT a h h1 → g_G K mX3_keeps 1 0 0 (gV fun h' n' => mR a (up1 V 0 (fup (fup (V 0) 6 (nI (rgf c f))) 5 (nI (rgc c + 1)))) (up1 Y 2 (mxb (Y 4) (Y 2) ((rgf c f + rgc c) % 8) 56)) h' ∧ mT a h h' ∧ n' = n) gN 47 [some (.ref a), some (.int (nI ((rgf c f + rgc c) % 8))), some (.int (nI k))] [] h1 n := by
    intro j
    induction j with
    | zero =>
      intro k h1 hk m1 t1
      have hk : k = 56 := by omega
      subst hk
      refine r_iload2 dX3_keeps_47 ?_
      refine r_bipush (v := nI 56) dX3_keeps_48 (by decide) ?_
      refine r_icmp_geN (tgt := 76) dX3_keeps_50 (by decide) (by omega) (by omega) (fun c50 => ?_) (fun c50 => absurd c50 (by omega))
      refine r_aload0 dX3_keeps_76 ?_
      refine r_dup dX3_keeps_77 ?_
      refine f_X3_50_X3 dX3_keeps_78 m1.1 ?_
      refine r_iconst (v := nI 1) dX3_keeps_81 (by decide) ?_
      refine r_iadd dX3_keeps_82 (show _ = nI (rgc c + 1) by rw [up1_s, fup_s]; exact nI_add _ _) ?_
      refine p_X3_50_X3 dX3_keeps_83 (by omega) m1.1 ?_
      exact r_return dX3_keeps_86 rfl (⟨(m1.o (i := fup (fup (V 0) 6 (nI (rgf c f))) 5 (nI (rgc c + 1))) (by rw [up1_s]; rfl)).to up1_up1 rfl, t1.tr (mT.up (k := 0) (by omega)), rfl⟩)
    | succ j ih =>
      intro k h1 hk m1 t1
      refine r_iload2 dX3_keeps_47 ?_
      refine r_bipush (v := nI 56) dX3_keeps_48 (by decide) ?_
      refine r_icmp_geN (tgt := 76) dX3_keeps_50 (by decide) (by omega) (by omega) (fun c50 => absurd c50 (by omega)) (fun c50 => ?_)
      refine r_aload0 dX3_keeps_53 ?_
      refine f_X3_17_X3 dX3_keeps_54 m1.1 ?_
      refine r_bipush (v := nI 56) dX3_keeps_57 (by decide) ?_
      refine r_iload1 dX3_keeps_59 ?_
      refine r_imul dX3_keeps_60 (by first | exact pk_mul _ _ | rfl) ?_
      refine r_iload2 dX3_keeps_61 ?_
      refine r_iadd dX3_keeps_62 (by first | exact nI_add _ _ | rfl) ?_
      refine r_aload0 dX3_keeps_63 ?_
      refine f_X3_23_X3 dX3_keeps_64 m1.1 ?_
      refine r_iload2 dX3_keeps_67 ?_
      refine r_laload (k) dX3_keeps_68 (by rw [m1.2.2.2.2.1, up1_n (by decide)]) rfl (by omega) (aL_at (by omega)) ?_
      refine r_lastore ((56 * ((rgf c f + rgc c) % 8) + k)) dX3_keeps_69 (by omega) (by rw [m1.2.2.1, up1_s]) rfl (by omega) (by rw [aL_len]; omega) ?_
      refine r_iinc2 dX3_keeps_70 (ii1 _) ?_
      refine r_goto (tgt := 47) dX3_keeps_73 (by decide) ?_
      exact ih (k + 1) _ (by omega) ((m1.u (f := mxb (Y 4) (Y 2) ((rgf c f + rgc c) % 8) (k + 1)) (by rw [aL_set, mxb_s (by omega)])).to rfl up1_up1) (t1.tr (mT.up (by omega)))
  have mid : ∀ (h1 : g_P), mR a (up1 V 0 (fup (fup (V 0) 6 (nI (rgf c f))) 5 (nI (rgc c)))) Y h1 → mT a h h1 → g_G K mX3_keeps 1 0 0 (gV fun h' n' => mR a (up1 V 0 (fup (fup (V 0) 6 (nI (rgf c f))) 5 (nI (rgc c + 1)))) (up1 Y 2 (mxb (Y 4) (Y 2) ((rgf c f + rgc c) % 8) 56)) h' ∧ mT a h h' ∧ n' = n) gN 32 [some (.ref a), none, none] [] h1 n := by
    intro h1 m1 t1
    refine r_aload0 dX3_keeps_32 ?_
    refine f_X3_53_X3 dX3_keeps_33 m1.1 ?_
    refine r_aload0 dX3_keeps_36 ?_
    refine f_X3_50_X3 dX3_keeps_37 m1.1 ?_
    refine r_iadd dX3_keeps_40 (show _ = nI (rgf c f + rgc c) by rw [up1_s, fup_s, fup_n (by decide), fup_s]; exact nI_add _ _) ?_
    refine r_bipush (v := nI 8) dX3_keeps_41 (by decide) ?_
    refine r_irem dX3_keeps_43 (nI_ne0 (by omega) (by omega)) (by first | exact pk_rem (by omega) (by omega) (by omega) | rfl) ?_
    refine r_istore1 dX3_keeps_44 ?_
    refine r_iconst (v := nI 0) dX3_keeps_45 (by decide) ?_
    refine r_istore2 dX3_keeps_46 ?_
    exact loop 56 0 h1 rfl (m1.to rfl (by rw [mxb_0, up1_self])) t1
  refine r_aload0 dX3_keeps_0 ?_
  refine f_X3_50_X3 dX3_keeps_1 m.1 ?_
  refine r_bipush (v := nI 8) dX3_keeps_4 (by decide) ?_
  rw [hc]
  refine r_icmp_neN (tgt := 32) dX3_keeps_6 (by decide) (by omega) (by omega) (fun c6 => ?_) (fun c6 => ?_)
  · exact mid h (m.to (by rw [fup_id (show V 0 6 = _ by rw [hf]; unfold rgf; rw [if_neg c6]), fup_id (show V 0 5 = _ by rw [hc]; unfold rgc; rw [if_neg c6]), up1_self]) rfl) mT.rf
  · refine r_aload0 dX3_keeps_9 ?_
    refine r_aload0 dX3_keeps_10 ?_
    refine f_X3_53_X3 dX3_keeps_11 m.1 ?_
    refine r_iconst (v := nI 1) dX3_keeps_14 (by decide) ?_
    refine r_iadd dX3_keeps_15 (show _ = nI (f + 1) by rw [hf]; exact nI_add _ _) ?_
    refine r_bipush (v := nI 8) dX3_keeps_16 (by decide) ?_
    refine r_irem dX3_keeps_18 (nI_ne0 (by omega) (by omega)) (by first | exact pk_rem (by omega) (by omega) (by omega) | rfl) ?_
    refine p_X3_53_X3 dX3_keeps_19 (by omega) m.1 ?_
    refine r_aload0 dX3_keeps_22 ?_
    refine r_dup dX3_keeps_23 ?_
    refine f_X3_50_X3 dX3_keeps_24 g_us ?_
    refine r_iconst (v := nI 1) dX3_keeps_27 (by decide) ?_
    refine r_isub dX3_keeps_28 (show _ = nI 7 by rw [hc, c6]; exact pk_sub (by omega)) ?_
    refine p_X3_50_X3 dX3_keeps_29 (by omega) g_us ?_
    exact mid _ ((mR.o (i := fup (fup (V 0) 6 (nI (rgf c f))) 5 (nI (rgc c))) (mR.o (i := fup (V 0) 6 (nI (rgf c f))) m (by unfold rgf; rw [if_pos c6]; rfl)) (by unfold rgc rgf; rw [if_pos c6, if_pos c6]; rfl)).to up1_up1 rfl) ((mT.up (k := 0) (by omega)).tr (mT.up (k := 0) (by omega)))
end
