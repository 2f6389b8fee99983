/-! a sheet's picture; its small methods -/
section SHEET
set_option maxRecDepth 100000
variable {g : xG} {l : Launch} {h h0 h' : xH}
theorem c_isIn (h : xH) (x lo hi : Int32) (d : Nat) : Ct g l mX0_isIn d 0 0 [.int x, .int lo, .int hi] h (fun o h' => o = .inl (some (.int (bI (bIn x lo hi)))) ∧ h' = h) := by
  refine Ct.of [some (.int x), some (.int lo), some (.int hi)] (by decide +kernel) rfl (Nat.le_of_ble_eq_true rfl) rfl rfl ?_
  refine x_iload_n (M := mX0_isIn) (pc := 0) dX0_isIn_0 rfl ?_
  refine x_iload_n (M := mX0_isIn) (pc := 1) dX0_isIn_1 rfl ?_
  refine x_icmp_lt (M := mX0_isIn) (pc := 2) 14 dX0_isIn_2 (by decide) (fun r_a => ?_) (fun r_a => ?_)
  rotate_left
  refine x_iload_n (M := mX0_isIn) (pc := 5) dX0_isIn_5 rfl ?_
  refine x_iload_n (M := mX0_isIn) (pc := 6) dX0_isIn_6 rfl ?_
  refine x_icmp_gt (M := mX0_isIn) (pc := 7) 14 dX0_isIn_7 (by decide) (fun r_b => ?_) (fun r_b => ?_)
  rotate_left
  refine x_iconst (M := mX0_isIn) (pc := 10) (v := nI 1) dX0_isIn_10 (by decide) ?_
  refine x_goto (M := mX0_isIn) (pc := 11) 15 dX0_isIn_11 (by decide) ?_
  refine x_zret (M := mX0_isIn) (pc := 15) dX0_isIn_15 rfl (by first | with_reducible exact xz0 | with_reducible exact xz1 | with_reducible exact bI_01 _ | with_reducible assumption | assumption) (by first | exact Nat.le_of_ble_eq_true rfl | omega) (by first | exact Nat.le_of_ble_eq_true rfl | omega) ?_
  exact ⟨congrArg Sum.inl (rV1 ⟨Int32.not_lt.mp r_a, Int32.not_lt.mp r_b⟩), rfl⟩
  · refine x_iconst (M := mX0_isIn) (pc := 14) (v := nI 0) dX0_isIn_14 (by decide) ?_
    refine x_zret (M := mX0_isIn) (pc := 15) dX0_isIn_15 rfl (by first | with_reducible exact xz0 | with_reducible exact xz1 | with_reducible exact bI_01 _ | with_reducible assumption | assumption) (by first | exact Nat.le_of_ble_eq_true rfl | omega) (by first | exact Nat.le_of_ble_eq_true rfl | omega) ?_
    exact ⟨congrArg Sum.inl (rV0 (fun q => absurd r_a (Int32.not_lt.mpr q.1))), rfl⟩
  · refine x_iconst (M := mX0_isIn) (pc := 14) (v := nI 0) dX0_isIn_14 (by decide) ?_
    refine x_zret (M := mX0_isIn) (pc := 15) dX0_isIn_15 rfl (by first | with_reducible exact xz0 | with_reducible exact xz1 | with_reducible exact bI_01 _ | with_reducible assumption | assumption) (by first | exact Nat.le_of_ble_eq_true rfl | omega) (by first | exact Nat.le_of_ble_eq_true rfl | omega) ?_
    exact ⟨congrArg Sum.inl (rV0 (fun q => absurd r_b (Int32.not_lt.mpr q.2))), rfl⟩
theorem c_isInN (h : xH) (x : Int32) (a b : Nat) (d : Nat) : Ct g l mX0_isIn d 0 0 [.int x, .int (nI a), .int (nI b)] h (fun o h' => o = .inl (some (.int (bI (bIn x (nI a) (nI b))))) ∧ h' = h) := c_isIn h x _ _ d
theorem c_isBit (h : xH) (x : Int32) (d : Nat) (hd : 1 ≤ d) : Ct g l mX0_isBit d 0 0 [.int x] h (fun o h' => o = .inl (some (.int (bI (bIn x 0 1)))) ∧ h' = h) := by
  refine Ct.of [some (.int x)] (by decide +kernel) rfl (Nat.le_of_ble_eq_true rfl) rfl rfl ?_
  refine x_iload_n (M := mX0_isBit) (pc := 0) dX0_isBit_0 rfl ?_
  refine x_iconst (M := mX0_isBit) (pc := 1) (v := nI 0) dX0_isBit_1 (by decide) ?_
  refine x_iconst (M := mX0_isBit) (pc := 2) (v := nI 1) dX0_isBit_2 (by decide) ?_
  refine x_S3 (M := mX0_isBit) (pc := 3) (M' := mX0_isIn) q418 kSX0_isIn dX0_isBit_3 (c_isIn h x _ _ (d - 1)) (fun v_ h hq_ => ?_)
  obtain ⟨hv_, rfl⟩ := hq_; cases hv_
  refine x_zret (M := mX0_isBit) (pc := 6) dX0_isBit_6 rfl (by first | with_reducible exact xz0 | with_reducible exact xz1 | with_reducible exact bI_01 _ | with_reducible assumption | assumption) (by first | exact Nat.le_of_ble_eq_true rfl | omega) (by first | exact Nat.le_of_ble_eq_true rfl | omega) ?_
  exact ⟨rfl, rfl⟩
theorem c_has (h : xH) (a k d : Nat) (ha : a < 2 ^ 31) (hk : k < 32) : Ct g l mX0_has d 0 0 [.int (nI a), .int (nI k)] h (fun o h' => o = .inl (some (.int (bI (a.testBit k)))) ∧ h' = h) := by
  have hb := nI_bit ha hk
  refine Ct.of [some (.int (nI a)), some (.int (nI k))] (by decide +kernel) rfl (Nat.le_of_ble_eq_true rfl) rfl rfl ?_
  refine x_iload_n (M := mX0_has) (pc := 0) dX0_has_0 rfl ?_
  refine x_iload_n (M := mX0_has) (pc := 1) dX0_has_1 rfl ?_
  refine x_ishr (M := mX0_has) (pc := 2) dX0_has_2 ?_
  refine x_iconst (M := mX0_has) (pc := 3) (v := 1) dX0_has_3 (by decide) ?_
  refine x_iand (M := mX0_has) (pc := 4) dX0_has_4 ?_
  refine x_iconst (M := mX0_has) (pc := 5) (v := 1) dX0_has_5 (by decide) ?_
  refine x_icmp_ne (M := mX0_has) (pc := 6) 13 dX0_has_6 (by decide) (fun r_c => ?_) (fun r_c => ?_)
  · refine x_iconst (M := mX0_has) (pc := 13) (v := nI 0) dX0_has_13 (by decide) ?_
    refine x_zret (M := mX0_has) (pc := 14) dX0_has_14 rfl (by first | with_reducible exact xz0 | with_reducible exact xz1 | with_reducible exact bI_01 _ | with_reducible assumption | assumption) (by first | exact Nat.le_of_ble_eq_true rfl | omega) (by first | exact Nat.le_of_ble_eq_true rfl | omega) ?_
    exact ⟨congrArg Sum.inl (vB0 (by have : ¬ (a.testBit k = true) := fun q => r_c (hb.mpr q); simpa using this)), rfl⟩
  · refine x_iconst (M := mX0_has) (pc := 9) (v := nI 1) dX0_has_9 (by decide) ?_
    refine x_goto (M := mX0_has) (pc := 10) 14 dX0_has_10 (by decide) ?_
    refine x_zret (M := mX0_has) (pc := 14) dX0_has_14 rfl (by first | with_reducible exact xz0 | with_reducible exact xz1 | with_reducible exact bI_01 _ | with_reducible assumption | assumption) (by first | exact Nat.le_of_ble_eq_true rfl | omega) (by first | exact Nat.le_of_ble_eq_true rfl | omega) ?_
    exact ⟨congrArg Sum.inl (vB1 (hb.mp (by simpa using r_c))), rfl⟩
/-- a sheet's cell; its parts P: folds, numbers, turned, sights, notes, efforts -/
def shE (P : Nat → Nat) (s : Row) : va_E := .inr (2, [.int (nI (zHi s)), .int (nI (zWi s)), .ref (P 0), .int (nI (zNf s)), .ref (P 1), .ref (P 2), .int (nI (zN s 7)), .int (nI (zN s 8)), .int (nI (zN s 9)), .int (nI (zN s 10)), .int (nI (zN s 11)), .ref (P 3), .ref (P 4), .ref (P 5)])
def sgE (s : Row) (k : Nat) : va_E := .inr (10, [.int (nI (zN s (13 + 3 * k))), .int (nI (zN s (14 + 3 * k))), .int (bI (decide (zN s (15 + 3 * k) = 1)))])
def ntE (s : Row) (k : Nat) : va_E := .inr (7, [.int (nI (zN s (38 + 4 * k))), .int (nI (zN s (39 + 4 * k))), .int (nI (zN s (40 + 4 * k))), .int (bI (decide (zN s (41 + 4 * k) = 1)))])
/-- an array of ints that holds v -/
def aI (g : xG) (h : xH) (t a n : Nat) (v : Nat → Int32) : Prop := ∃ f, h a = some (.inl (xdA g t, n, .inl f)) ∧ ∀ k, k < n → f k = v k
theorem aI.keep {t a n : Nat} {v v' : Nat → Int32} (hA : aI g h t a n v) (e1 : ∀ e, h a = some e → h' a = some e) (e2 : ∀ k, k < n → v' k = v k) : aI g h' t a n v' := by
  obtain ⟨f, h1, h2⟩ := hA
  exact ⟨f, e1 _ h1, fun k hk => (h2 k hk).trans (e2 k hk).symm⟩
theorem aI.up {t a n : Nat} {v : Nat → Int32} {f : Nat → Int32} {k : Nat} {x : Int32} {w : Nat → Int32} (h2 : ∀ j, j < n → f j = v j) (hw : ∀ j, j < n → w j = if j = k then x else v j) : aI g (xu h a (.inl (xdA g t, n, .inl (upd f k x)))) t a n w :=
  ⟨_, xu_s _ _ _, fun j hj => by rw [hw j hj]; unfold upd; split <;> first | rfl | exact h2 j hj⟩
/-- a list of cells that are told -/
def lE (g : xG) (h : xH) (a arr n : Nat) (xs : List Nat) (E : Nat → va_E) : Prop := AL g h a arr xs ∧ xs.length = n ∧ ∀ k, k < n → h (xs.getD k 0) = some (E k)
def SHP (g : xG) (h : xH) (sh : Nat) (P : Nat → Nat) (s : Row) (xs ys : List Nat) : Prop :=
  h sh = some (shE P s) ∧ aI g h 0 (P 0) 4 (fun k => s (3 + k)) ∧ aI g h 0 (P 1) 32 (fun k => zNone (s (90 + k))) ∧ aI g h 1 (P 2) 32 (fun k => s (122 + k)) ∧ aI g h 0 (P 5) 4 (fun k => s (86 + k)) ∧ lE g h (P 3) (P 6) (zN s 12) xs (sgE s) ∧ lE g h (P 4) (P 7) (zN s 37) ys (ntE s) ∧
  (P 0 ≠ P 5 ∧ P 1 ≠ P 2 ∧ P 3 ≠ P 4 ∧ (P 6 = P 7 → P 6 = xca g 0 0))
theorem SHP.le {sh : Nat} {P : Nat → Nat} {s : Row} {xs ys : List Nat} (hl : xle h h') (hS : SHP g h sh P s xs ys) : SHP g h' sh P s xs ys := by
  obtain ⟨h1, h2, h3, h4, h5, ⟨a1, a2, a3⟩, ⟨b1, b2, b3⟩, h8⟩ := hS
  exact ⟨hl _ _ h1, h2.keep (hl _) (fun _ _ => rfl), h3.keep (hl _) (fun _ _ => rfl), h4.keep (hl _) (fun _ _ => rfl), h5.keep (hl _) (fun _ _ => rfl), ⟨a1.le hl, a2, fun k hk => hl _ _ (a3 k hk)⟩, ⟨b1.le hl, b2, fun k hk => hl _ _ (b3 k hk)⟩, h8⟩
theorem SHP.is {sh : Nat} {P : Nat → Nat} {s : Row} {xs ys : List Nat} (hS : SHP g h sh P s xs ys) : xIs g h sh "CribBooklet$Sheet" := xIs.of kcX2 hS.1
theorem WF.ok {s : Row} (hW : WF s) : p_ok (zHi s) (zWi s) 1 = true := hW.1.2.2.2.2.1
theorem WF.b {s : Row} (hW : WF s) : 1 ≤ zHi s ∧ zHi s ≤ 4 ∧ 1 ≤ zWi s ∧ zWi s ≤ 4 ∧ zHi s * zWi s ≤ 16 ∧ 1 ≤ zHi s * zWi s ∧ zNf s ≤ 4 := by
  obtain ⟨b1, b2, -, b4, b5, -, b7⟩ := p_ok_b hW.ok
  have := p_cans_le hW.ok hW.1.2.2.2.2.2
  exact ⟨b4, by omega, b5, by omega, by omega, Nat.mul_le_mul b4 b5, this⟩
theorem c_cells (h : xH) (sh d : Nat) (P : Nat → Nat) (s : Row) (hsh : h sh = some (shE P s)) : Ct g l mX2_cells d 0 0 [.ref sh] h (fun o h' => o = .inl (some (.int (nI (zHi s * zWi s)))) ∧ h' = h) := by
  unfold shE at hsh
  refine Ct.of [some (.ref sh)] (by decide +kernel) rfl (Nat.le_of_ble_eq_true rfl) rfl rfl ?_
  refine x_aload_n (M := mX2_cells) (pc := 0) dX2_cells_0 rfl ?_
  refine x_get (M := mX2_cells) (pc := 1) kcX2 0 rfl q210 dX2_cells_1 (by first | assumption | exact xu_s _ _ _ | exact (xu_n (by first | assumption | exact Ne.symm (by assumption) | exact xu_fresh (by assumption) (by assumption) | exact (xu_fresh (by assumption) (by assumption)).symm)).trans (by first | assumption | exact xu_s _ _ _ | exact (xu_n (by first | assumption | exact Ne.symm (by assumption) | exact xu_fresh (by assumption) (by assumption) | exact (xu_fresh (by assumption) (by assumption)).symm)).trans (by first | assumption | exact xu_s _ _ _ | exact (xu_n (by first | assumption | exact Ne.symm (by assumption) | exact xu_fresh (by assumption) (by assumption) | exact (xu_fresh (by assumption) (by assumption)).symm)).trans (by first | assumption | exact xu_s _ _ _)))) rfl ?_
  refine x_aload_n (M := mX2_cells) (pc := 4) dX2_cells_4 rfl ?_
  refine x_get (M := mX2_cells) (pc := 5) kcX2 1 rfl q214 dX2_cells_5 (by first | assumption | exact xu_s _ _ _ | exact (xu_n (by first | assumption | exact Ne.symm (by assumption) | exact xu_fresh (by assumption) (by assumption) | exact (xu_fresh (by assumption) (by assumption)).symm)).trans (by first | assumption | exact xu_s _ _ _ | exact (xu_n (by first | assumption | exact Ne.symm (by assumption) | exact xu_fresh (by assumption) (by assumption) | exact (xu_fresh (by assumption) (by assumption)).symm)).trans (by first | assumption | exact xu_s _ _ _ | exact (xu_n (by first | assumption | exact Ne.symm (by assumption) | exact xu_fresh (by assumption) (by assumption) | exact (xu_fresh (by assumption) (by assumption)).symm)).trans (by first | assumption | exact xu_s _ _ _)))) rfl ?_
  first | with_reducible refine x_imulN (M := mX2_cells) (pc := 8) dX2_cells_8 ?_ | refine x_imul (M := mX2_cells) (pc := 8) dX2_cells_8 ?_
  refine x_iret (M := mX2_cells) (pc := 9) dX2_cells_9 rfl (by first | exact Nat.le_of_ble_eq_true rfl | omega) (by first | exact Nat.le_of_ble_eq_true rfl | omega) ?_
  exact ⟨rfl, rfl⟩
theorem zCell_i {s : Row} (hW : WF s) (x y : Int32) : zCell s x y = (bIn x (nI 0) (nI (zHi s - 1)) && bIn y (nI 0) (nI (zWi s - 1))) := by
  have hb := hW.b
  unfold zCell
  rw [hW.1.1, hW.1.2.1, show (1 : Int32) = nI 1 from rfl, pk_sub (by omega), pk_sub (by omega)]; rfl
theorem c_isCell (h : xH) (sh d : Nat) (hd : 1 ≤ d) (P : Nat → Nat) (s : Row) (hW : WF s) (x y : Int32) (hsh : h sh = some (shE P s)) : Ct g l mX2_isCell d 0 0 [.ref sh, .int x, .int y] h (fun o h' => o = .inl (some (.int (bI (zCell s x y)))) ∧ h' = h) := by
  have hb := hW.b
  rw [zCell_i hW]
  unfold shE at hsh
  refine Ct.of [some (.ref sh), some (.int x), some (.int y)] (by decide +kernel) rfl (Nat.le_of_ble_eq_true rfl) rfl rfl ?_
  refine x_iload_n (M := mX2_isCell) (pc := 0) dX2_isCell_0 rfl ?_
  refine x_iconst (M := mX2_isCell) (pc := 1) (v := nI 0) dX2_isCell_1 (by decide) ?_
  refine x_aload_n (M := mX2_isCell) (pc := 2) dX2_isCell_2 rfl ?_
  refine x_get (M := mX2_isCell) (pc := 3) kcX2 0 rfl q210 dX2_isCell_3 (by first | assumption | exact xu_s _ _ _ | exact (xu_n (by first | assumption | exact Ne.symm (by assumption) | exact xu_fresh (by assumption) (by assumption) | exact (xu_fresh (by assumption) (by assumption)).symm)).trans (by first | assumption | exact xu_s _ _ _ | exact (xu_n (by first | assumption | exact Ne.symm (by assumption) | exact xu_fresh (by assumption) (by assumption) | exact (xu_fresh (by assumption) (by assumption)).symm)).trans (by first | assumption | exact xu_s _ _ _ | exact (xu_n (by first | assumption | exact Ne.symm (by assumption) | exact xu_fresh (by assumption) (by assumption) | exact (xu_fresh (by assumption) (by assumption)).symm)).trans (by first | assumption | exact xu_s _ _ _)))) rfl ?_
  refine x_iconst (M := mX2_isCell) (pc := 6) (v := nI 1) dX2_isCell_6 (by decide) ?_
  first | with_reducible refine x_isubN (M := mX2_isCell) (pc := 7) dX2_isCell_7 (by omega) ?_ | refine x_isub (M := mX2_isCell) (pc := 7) dX2_isCell_7 ?_
  refine x_SN3 (M := mX2_isCell) (pc := 8) (M' := mX0_isIn) q571 kSX0_isIn dX2_isCell_8 (c_isIn h x _ _ (d - 1)) (fun v_ h hq_ => ?_)
  obtain ⟨hv_, rfl⟩ := hq_; cases hv_
  first | with_reducible refine x_ifB_eq (M := mX2_isCell) (pc := 11) 32 dX2_isCell_11 (by decide) (fun c11 => ?_) (fun c11 => ?_) | with_reducible refine x_if_eqN (M := mX2_isCell) (pc := 11) 32 dX2_isCell_11 (by decide) (by omega) (fun c11 => ?_) (fun c11 => ?_) | refine x_if_eq (M := mX2_isCell) (pc := 11) 32 dX2_isCell_11 (by decide) (fun c11 => ?_) (fun c11 => ?_)
  · refine x_iconst (M := mX2_isCell) (pc := 32) (v := nI 0) dX2_isCell_32 (by decide) ?_
    refine x_zret (M := mX2_isCell) (pc := 33) dX2_isCell_33 rfl (by first | with_reducible exact xz0 | with_reducible exact xz1 | with_reducible exact bI_01 _ | with_reducible assumption | assumption) (by first | exact Nat.le_of_ble_eq_true rfl | omega) (by first | exact Nat.le_of_ble_eq_true rfl | omega) ?_
    exact ⟨congrArg Sum.inl (by first | exact vB1 (by simp [*]) | exact vB0 (by simp [*])), rfl⟩
  · refine x_iload_n (M := mX2_isCell) (pc := 14) dX2_isCell_14 rfl ?_
    refine x_iconst (M := mX2_isCell) (pc := 15) (v := nI 0) dX2_isCell_15 (by decide) ?_
    refine x_aload_n (M := mX2_isCell) (pc := 16) dX2_isCell_16 rfl ?_
    refine x_get (M := mX2_isCell) (pc := 17) kcX2 1 rfl q214 dX2_isCell_17 (by first | assumption | exact xu_s _ _ _ | exact (xu_n (by first | assumption | exact Ne.symm (by assumption) | exact xu_fresh (by assumption) (by assumption) | exact (xu_fresh (by assumption) (by assumption)).symm)).trans (by first | assumption | exact xu_s _ _ _ | exact (xu_n (by first | assumption | exact Ne.symm (by assumption) | exact xu_fresh (by assumption) (by assumption) | exact (xu_fresh (by assumption) (by assumption)).symm)).trans (by first | assumption | exact xu_s _ _ _ | exact (xu_n (by first | assumption | exact Ne.symm (by assumption) | exact xu_fresh (by assumption) (by assumption) | exact (xu_fresh (by assumption) (by assumption)).symm)).trans (by first | assumption | exact xu_s _ _ _)))) rfl ?_
    refine x_iconst (M := mX2_isCell) (pc := 20) (v := nI 1) dX2_isCell_20 (by decide) ?_
    first | with_reducible refine x_isubN (M := mX2_isCell) (pc := 21) dX2_isCell_21 (by omega) ?_ | refine x_isub (M := mX2_isCell) (pc := 21) dX2_isCell_21 ?_
    refine x_SN3 (M := mX2_isCell) (pc := 22) (M' := mX0_isIn) q571 kSX0_isIn dX2_isCell_22 (c_isIn h y _ _ (d - 1)) (fun v_ h hq_ => ?_)
    obtain ⟨hv_, rfl⟩ := hq_; cases hv_
    first | with_reducible refine x_ifB_eq (M := mX2_isCell) (pc := 25) 32 dX2_isCell_25 (by decide) (fun c25 => ?_) (fun c25 => ?_) | with_reducible refine x_if_eqN (M := mX2_isCell) (pc := 25) 32 dX2_isCell_25 (by decide) (by omega) (fun c25 => ?_) (fun c25 => ?_) | refine x_if_eq (M := mX2_isCell) (pc := 25) 32 dX2_isCell_25 (by decide) (fun c25 => ?_) (fun c25 => ?_)
    · refine x_iconst (M := mX2_isCell) (pc := 32) (v := nI 0) dX2_isCell_32 (by decide) ?_
      refine x_zret (M := mX2_isCell) (pc := 33) dX2_isCell_33 rfl (by first | with_reducible exact xz0 | with_reducible exact xz1 | with_reducible exact bI_01 _ | with_reducible assumption | assumption) (by first | exact Nat.le_of_ble_eq_true rfl | omega) (by first | exact Nat.le_of_ble_eq_true rfl | omega) ?_
      exact ⟨congrArg Sum.inl (by first | exact vB1 (by simp [*]) | exact vB0 (by simp [*])), rfl⟩
    · refine x_iconst (M := mX2_isCell) (pc := 28) (v := nI 1) dX2_isCell_28 (by decide) ?_
      refine x_goto (M := mX2_isCell) (pc := 29) 33 dX2_isCell_29 (by decide) ?_
      refine x_zret (M := mX2_isCell) (pc := 33) dX2_isCell_33 rfl (by first | with_reducible exact xz0 | with_reducible exact xz1 | with_reducible exact bI_01 _ | with_reducible assumption | assumption) (by first | exact Nat.le_of_ble_eq_true rfl | omega) (by first | exact Nat.le_of_ble_eq_true rfl | omega) ?_
      exact ⟨congrArg Sum.inl (by first | exact vB1 (by simp [*]) | exact vB0 (by simp [*])), rfl⟩
theorem c_sideOfS (h : xH) (sh d r c sd : Nat) (P : Nat → Nat) (s : Row) (hsh : h sh = some (shE P s)) : Ct g l mX2_sideOf d 0 0 [.ref sh, .int (nI r), .int (nI c), .int (nI sd)] h (fun o h' => o = .inl (some (.int (nI (2 * (r * zWi s + c) + sd)))) ∧ h' = h) := by
  unfold shE at hsh
  refine Ct.of [some (.ref sh), some (.int (nI r)), some (.int (nI c)), some (.int (nI sd))] (by decide +kernel) rfl (Nat.le_of_ble_eq_true rfl) rfl rfl ?_
  refine x_iconst (M := mX2_sideOf) (pc := 0) (v := nI 2) dX2_sideOf_0 (by decide) ?_
  refine x_iload_n (M := mX2_sideOf) (pc := 1) dX2_sideOf_1 rfl ?_
  refine x_aload_n (M := mX2_sideOf) (pc := 2) dX2_sideOf_2 rfl ?_
  refine x_get (M := mX2_sideOf) (pc := 3) kcX2 1 rfl q214 dX2_sideOf_3 (by first | assumption | exact xu_s _ _ _ | exact (xu_n (by first | assumption | exact Ne.symm (by assumption) | exact xu_fresh (by assumption) (by assumption) | exact (xu_fresh (by assumption) (by assumption)).symm)).trans (by first | assumption | exact xu_s _ _ _ | exact (xu_n (by first | assumption | exact Ne.symm (by assumption) | exact xu_fresh (by assumption) (by assumption) | exact (xu_fresh (by assumption) (by assumption)).symm)).trans (by first | assumption | exact xu_s _ _ _ | exact (xu_n (by first | assumption | exact Ne.symm (by assumption) | exact xu_fresh (by assumption) (by assumption) | exact (xu_fresh (by assumption) (by assumption)).symm)).trans (by first | assumption | exact xu_s _ _ _)))) rfl ?_
  first | with_reducible refine x_imulN (M := mX2_sideOf) (pc := 6) dX2_sideOf_6 ?_ | refine x_imul (M := mX2_sideOf) (pc := 6) dX2_sideOf_6 ?_
  refine x_iload_n (M := mX2_sideOf) (pc := 7) dX2_sideOf_7 rfl ?_
  first | with_reducible refine x_iaddN (M := mX2_sideOf) (pc := 8) dX2_sideOf_8 ?_ | refine x_iadd (M := mX2_sideOf) (pc := 8) dX2_sideOf_8 ?_
  first | with_reducible refine x_imulN (M := mX2_sideOf) (pc := 9) dX2_sideOf_9 ?_ | refine x_imul (M := mX2_sideOf) (pc := 9) dX2_sideOf_9 ?_
  refine x_iload_n (M := mX2_sideOf) (pc := 10) dX2_sideOf_10 rfl ?_
  first | with_reducible refine x_iaddN (M := mX2_sideOf) (pc := 11) dX2_sideOf_11 ?_ | refine x_iadd (M := mX2_sideOf) (pc := 11) dX2_sideOf_11 ?_
  refine x_iret (M := mX2_sideOf) (pc := 12) dX2_sideOf_12 rfl (by first | exact Nat.le_of_ble_eq_true rfl | omega) (by first | exact Nat.le_of_ble_eq_true rfl | omega) ?_
  exact ⟨rfl, rfl⟩
theorem c_layers (h : xH) (sh d : Nat) (P : Nat → Nat) (s : Row) (hW : WF s) (hsh : h sh = some (shE P s)) : Ct g l mX2_layers d 0 0 [.ref sh] h (fun o h' => o = .inl (some (.int (nI (2 ^ zNf s)))) ∧ h' = h) := by
  have hb := hW.b
  unfold shE at hsh
  refine Ct.of [some (.ref sh)] (by decide +kernel) rfl (Nat.le_of_ble_eq_true rfl) rfl rfl ?_
  refine x_iconst (M := mX2_layers) (pc := 0) (v := 1) dX2_layers_0 (by decide) ?_
  refine x_aload_n (M := mX2_layers) (pc := 1) dX2_layers_1 rfl ?_
  refine x_get (M := mX2_layers) (pc := 2) kcX2 3 rfl q224 dX2_layers_2 (by first | assumption | exact xu_s _ _ _ | exact (xu_n (by first | assumption | exact Ne.symm (by assumption) | exact xu_fresh (by assumption) (by assumption) | exact (xu_fresh (by assumption) (by assumption)).symm)).trans (by first | assumption | exact xu_s _ _ _ | exact (xu_n (by first | assumption | exact Ne.symm (by assumption) | exact xu_fresh (by assumption) (by assumption) | exact (xu_fresh (by assumption) (by assumption)).symm)).trans (by first | assumption | exact xu_s _ _ _ | exact (xu_n (by first | assumption | exact Ne.symm (by assumption) | exact xu_fresh (by assumption) (by assumption) | exact (xu_fresh (by assumption) (by assumption)).symm)).trans (by first | assumption | exact xu_s _ _ _)))) rfl ?_
  refine x_ishl (M := mX2_layers) (pc := 5) dX2_layers_5 ?_
  refine x_val (M := mX2_layers) (pc := 6) (nI_one _ (by omega)) ?_
  refine x_iret (M := mX2_layers) (pc := 6) dX2_layers_6 rfl (by first | exact Nat.le_of_ble_eq_true rfl | omega) (by first | exact Nat.le_of_ble_eq_true rfl | omega) ?_
  exact ⟨rfl, rfl⟩
theorem c_isBooklet (h : xH) (sh d : Nat) (hd : 1 ≤ d) (P : Nat → Nat) (s : Row) (hW : WF s) (hsh : h sh = some (shE P s)) : Ct g l mX2_isBooklet d 0 0 [.ref sh] h (fun o h' => o = .inl (some (.int (bI (zBook s)))) ∧ h' = h) := by
  have hb := hW.b
  have h16 : 2 ^ zNf s ≤ 2 ^ 4 := Nat.pow_le_pow_right (by omega) hb.2.2.2.2.2.2
  have his : xIs g h sh "CribBooklet$Sheet" := xIs.of kcX2 hsh
  refine Ct.of [some (.ref sh)] (by decide +kernel) rfl (Nat.le_of_ble_eq_true rfl) rfl rfl ?_
  refine x_aload_n (M := mX2_isBooklet) (pc := 0) dX2_isBooklet_0 rfl ?_
  refine x_V0 (M := mX2_isBooklet) (pc := 1) (M' := mX2_layers) q434 kVX2_layers dX2_isBooklet_1 (c_layers h sh (d - 1) P s hW hsh) (his) (fun v_ h hq_ => ?_)
  obtain ⟨hv_, rfl⟩ := hq_; cases hv_
  refine x_aload_n (M := mX2_isBooklet) (pc := 4) dX2_isBooklet_4 rfl ?_
  refine x_V0 (M := mX2_isBooklet) (pc := 5) (M' := mX2_cells) q438 kVX2_cells dX2_isBooklet_5 (c_cells h sh (d - 1) P s hsh) (his) (fun v_ h hq_ => ?_)
  obtain ⟨hv_, rfl⟩ := hq_; cases hv_
  first | with_reducible refine x_icmp_neN (M := mX2_isBooklet) (pc := 8) 15 dX2_isBooklet_8 (by decide) (by omega) (by omega) (fun c8 => ?_) (fun c8 => ?_) | refine x_icmp_ne (M := mX2_isBooklet) (pc := 8) 15 dX2_isBooklet_8 (by decide) (fun c8 => ?_) (fun c8 => ?_)
  · refine x_iconst (M := mX2_isBooklet) (pc := 15) (v := nI 0) dX2_isBooklet_15 (by decide) ?_
    refine x_zret (M := mX2_isBooklet) (pc := 16) dX2_isBooklet_16 rfl (by first | with_reducible exact xz0 | with_reducible exact xz1 | with_reducible exact bI_01 _ | with_reducible assumption | assumption) (by first | exact Nat.le_of_ble_eq_true rfl | omega) (by first | exact Nat.le_of_ble_eq_true rfl | omega) ?_
    exact ⟨congrArg Sum.inl (by first | exact vB1 (by simp [zBook, *]) | exact vB0 (by simp [zBook, *])), rfl⟩
  · refine x_iconst (M := mX2_isBooklet) (pc := 11) (v := nI 1) dX2_isBooklet_11 (by decide) ?_
    refine x_goto (M := mX2_isBooklet) (pc := 12) 16 dX2_isBooklet_12 (by decide) ?_
    refine x_zret (M := mX2_isBooklet) (pc := 16) dX2_isBooklet_16 rfl (by first | with_reducible exact xz0 | with_reducible exact xz1 | with_reducible exact bI_01 _ | with_reducible assumption | assumption) (by first | exact Nat.le_of_ble_eq_true rfl | omega) (by first | exact Nat.le_of_ble_eq_true rfl | omega) ?_
    exact ⟨congrArg Sum.inl (by first | exact vB1 (by simp [zBook, *]) | exact vB0 (by simp [zBook, *])), rfl⟩
theorem zHeld_n {s : Row} (hW : WF s) : zHeld s = decide (zN s 8 ≠ 0 ∨ zN s 9 ≠ 0) := by
  have e8 : s 8 = 0 ↔ zN s 8 = 0 := by rw [hW.2.2.1.1]; rw [show nI (zN s 8) = 0 ↔ zN s 8 = 0 from nI_z0 (by have := hW.2.2.1.2; omega)]
  have e9 : s 9 = 0 ↔ zN s 9 = 0 := by rw [hW.2.2.2.1.1]; rw [show nI (zN s 9) = 0 ↔ zN s 9 = 0 from nI_z0 (by have := hW.2.2.2.1.2; omega)]
  unfold zHeld
  simp only [ne_eq, e8, e9]
theorem c_isWorked (h : xH) (sh d : Nat) (P : Nat → Nat) (s : Row) (hW : WF s) (hsh : h sh = some (shE P s)) : Ct g l mX2_isWorked d 0 0 [.ref sh] h (fun o h' => o = .inl (some (.int (bI (zHeld s)))) ∧ h' = h) := by
  have h8 := hW.2.2.1.2
  have h9 := hW.2.2.2.1.2
  rw [zHeld_n hW]
  unfold shE at hsh
  refine Ct.of [some (.ref sh)] (by decide +kernel) rfl (Nat.le_of_ble_eq_true rfl) rfl rfl ?_
  refine x_aload_n (M := mX2_isWorked) (pc := 0) dX2_isWorked_0 rfl ?_
  refine x_get (M := mX2_isWorked) (pc := 1) kcX2 7 rfl q239 dX2_isWorked_1 (by first | assumption | exact xu_s _ _ _ | exact (xu_n (by first | assumption | exact Ne.symm (by assumption) | exact xu_fresh (by assumption) (by assumption) | exact (xu_fresh (by assumption) (by assumption)).symm)).trans (by first | assumption | exact xu_s _ _ _ | exact (xu_n (by first | assumption | exact Ne.symm (by assumption) | exact xu_fresh (by assumption) (by assumption) | exact (xu_fresh (by assumption) (by assumption)).symm)).trans (by first | assumption | exact xu_s _ _ _ | exact (xu_n (by first | assumption | exact Ne.symm (by assumption) | exact xu_fresh (by assumption) (by assumption) | exact (xu_fresh (by assumption) (by assumption)).symm)).trans (by first | assumption | exact xu_s _ _ _)))) rfl ?_
  first | with_reducible refine x_ifB_ne (M := mX2_isWorked) (pc := 4) 14 dX2_isWorked_4 (by decide) (fun c4 => ?_) (fun c4 => ?_) | with_reducible refine x_if_neN (M := mX2_isWorked) (pc := 4) 14 dX2_isWorked_4 (by decide) (by omega) (fun c4 => ?_) (fun c4 => ?_) | refine x_if_ne (M := mX2_isWorked) (pc := 4) 14 dX2_isWorked_4 (by decide) (fun c4 => ?_) (fun c4 => ?_)
  · refine x_iconst (M := mX2_isWorked) (pc := 14) (v := nI 1) dX2_isWorked_14 (by decide) ?_
    refine x_goto (M := mX2_isWorked) (pc := 15) 19 dX2_isWorked_15 (by decide) ?_
    refine x_zret (M := mX2_isWorked) (pc := 19) dX2_isWorked_19 rfl (by first | with_reducible exact xz0 | with_reducible exact xz1 | with_reducible exact bI_01 _ | with_reducible assumption | assumption) (by first | exact Nat.le_of_ble_eq_true rfl | omega) (by first | exact Nat.le_of_ble_eq_true rfl | omega) ?_
    exact ⟨congrArg Sum.inl (by first | exact vB1 (by simp [*]) | exact vB0 (by simp [*])), rfl⟩
  · refine x_aload_n (M := mX2_isWorked) (pc := 7) dX2_isWorked_7 rfl ?_
    refine x_get (M := mX2_isWorked) (pc := 8) kcX2 8 rfl q246 dX2_isWorked_8 (by first | assumption | exact xu_s _ _ _ | exact (xu_n (by first | assumption | exact Ne.symm (by assumption) | exact xu_fresh (by assumption) (by assumption) | exact (xu_fresh (by assumption) (by assumption)).symm)).trans (by first | assumption | exact xu_s _ _ _ | exact (xu_n (by first | assumption | exact Ne.symm (by assumption) | exact xu_fresh (by assumption) (by assumption) | exact (xu_fresh (by assumption) (by assumption)).symm)).trans (by first | assumption | exact xu_s _ _ _ | exact (xu_n (by first | assumption | exact Ne.symm (by assumption) | exact xu_fresh (by assumption) (by assumption) | exact (xu_fresh (by assumption) (by assumption)).symm)).trans (by first | assumption | exact xu_s _ _ _)))) rfl ?_
    first | with_reducible refine x_ifB_eq (M := mX2_isWorked) (pc := 11) 18 dX2_isWorked_11 (by decide) (fun c11 => ?_) (fun c11 => ?_) | with_reducible refine x_if_eqN (M := mX2_isWorked) (pc := 11) 18 dX2_isWorked_11 (by decide) (by omega) (fun c11 => ?_) (fun c11 => ?_) | refine x_if_eq (M := mX2_isWorked) (pc := 11) 18 dX2_isWorked_11 (by decide) (fun c11 => ?_) (fun c11 => ?_)
    · refine x_iconst (M := mX2_isWorked) (pc := 18) (v := nI 0) dX2_isWorked_18 (by decide) ?_
      refine x_zret (M := mX2_isWorked) (pc := 19) dX2_isWorked_19 rfl (by first | with_reducible exact xz0 | with_reducible exact xz1 | with_reducible exact bI_01 _ | with_reducible assumption | assumption) (by first | exact Nat.le_of_ble_eq_true rfl | omega) (by first | exact Nat.le_of_ble_eq_true rfl | omega) ?_
      exact ⟨congrArg Sum.inl (by first | exact vB1 (by simp [*]) | exact vB0 (by simp [*])), rfl⟩
    · refine x_iconst (M := mX2_isWorked) (pc := 14) (v := nI 1) dX2_isWorked_14 (by decide) ?_
      refine x_goto (M := mX2_isWorked) (pc := 15) 19 dX2_isWorked_15 (by decide) ?_
      refine x_zret (M := mX2_isWorked) (pc := 19) dX2_isWorked_19 rfl (by first | with_reducible exact xz0 | with_reducible exact xz1 | with_reducible exact bI_01 _ | with_reducible assumption | assumption) (by first | exact Nat.le_of_ble_eq_true rfl | omega) (by first | exact Nat.le_of_ble_eq_true rfl | omega) ?_
      exact ⟨congrArg Sum.inl (by first | exact vB1 (by simp [*]) | exact vB0 (by simp [*])), rfl⟩
theorem c_spineEdge (h : xH) (sh d : Nat) (P : Nat → Nat) (s : Row) (hW : WF s) (hsh : h sh = some (shE P s)) : Ct g l mX2_spineEdge d 0 0 [.ref sh] h (fun o h' => o = .inl (some (.int (nI (p_se (zN s 7))))) ∧ h' = h) := by
  have h7 := hW.2.1.2
  unfold shE at hsh
  refine Ct.of [some (.ref sh)] (by decide +kernel) rfl (Nat.le_of_ble_eq_true rfl) rfl rfl ?_
  refine x_aload_n (M := mX2_spineEdge) (pc := 0) dX2_spineEdge_0 rfl ?_
  refine x_get (M := mX2_spineEdge) (pc := 1) kcX2 6 rfl q235 dX2_spineEdge_1 (by first | assumption | exact xu_s _ _ _ | exact (xu_n (by first | assumption | exact Ne.symm (by assumption) | exact xu_fresh (by assumption) (by assumption) | exact (xu_fresh (by assumption) (by assumption)).symm)).trans (by first | assumption | exact xu_s _ _ _ | exact (xu_n (by first | assumption | exact Ne.symm (by assumption) | exact xu_fresh (by assumption) (by assumption) | exact (xu_fresh (by assumption) (by assumption)).symm)).trans (by first | assumption | exact xu_s _ _ _ | exact (xu_n (by first | assumption | exact Ne.symm (by assumption) | exact xu_fresh (by assumption) (by assumption) | exact (xu_fresh (by assumption) (by assumption)).symm)).trans (by first | assumption | exact xu_s _ _ _)))) rfl ?_
  first | with_reducible refine x_ifB_ne (M := mX2_spineEdge) (pc := 4) 11 dX2_spineEdge_4 (by decide) (fun c4 => ?_) (fun c4 => ?_) | with_reducible refine x_if_neN (M := mX2_spineEdge) (pc := 4) 11 dX2_spineEdge_4 (by decide) (by omega) (fun c4 => ?_) (fun c4 => ?_) | refine x_if_ne (M := mX2_spineEdge) (pc := 4) 11 dX2_spineEdge_4 (by decide) (fun c4 => ?_) (fun c4 => ?_)
  · refine x_iconst (M := mX2_spineEdge) (pc := 11) (v := nI 2) dX2_spineEdge_11 (by decide) ?_
    refine x_iret (M := mX2_spineEdge) (pc := 12) dX2_spineEdge_12 rfl (by first | exact Nat.le_of_ble_eq_true rfl | omega) (by first | exact Nat.le_of_ble_eq_true rfl | omega) ?_
    exact ⟨congrArg Sum.inl (by simp [p_se, *]), rfl⟩
  · refine x_iconst (M := mX2_spineEdge) (pc := 7) (v := nI 0) dX2_spineEdge_7 (by decide) ?_
    refine x_goto (M := mX2_spineEdge) (pc := 8) 12 dX2_spineEdge_8 (by decide) ?_
    refine x_iret (M := mX2_spineEdge) (pc := 12) dX2_spineEdge_12 rfl (by first | exact Nat.le_of_ble_eq_true rfl | omega) (by first | exact Nat.le_of_ble_eq_true rfl | omega) ?_
    exact ⟨congrArg Sum.inl (by simp [p_se, *]), rfl⟩
theorem c_fasL (h : xH) (sh d : Nat) (P : Nat → Nat) (s : Row) (hW : WF s) (hsh : h sh = some (shE P s)) (hfo : aI g h 0 (P 0) 4 (fun k => s (3 + k))) (Q : xO → xH → Prop) (hE : Q (.inl (some (.int (p_fnow s (zNf s))))) h) : ∀ n k, k + n = zNf s → X g l mX2_foldsAsNumber d 0 0 Q 4 [some (.ref sh), some (.int (p_fnow s k)), some (.int (nI k))] [] h 0 0 := by
  have hb := hW.b
  obtain ⟨f, hf, hv⟩ := hfo
  unfold shE at hsh
  intro n
  induction n with
  | zero =>
    intro k hk
    have : k = zNf s := by omega
    subst this
    refine x_iload_n (M := mX2_foldsAsNumber) (pc := 4) dX2_foldsAsNumber_4 rfl ?_
    refine x_aload_n (M := mX2_foldsAsNumber) (pc := 5) dX2_foldsAsNumber_5 rfl ?_
    refine x_get (M := mX2_foldsAsNumber) (pc := 6) kcX2 3 rfl q224 dX2_foldsAsNumber_6 (by first | assumption | exact xu_s _ _ _ | exact (xu_n (by first | assumption | exact Ne.symm (by assumption) | exact xu_fresh (by assumption) (by assumption) | exact (xu_fresh (by assumption) (by assumption)).symm)).trans (by first | assumption | exact xu_s _ _ _ | exact (xu_n (by first | assumption | exact Ne.symm (by assumption) | exact xu_fresh (by assumption) (by assumption) | exact (xu_fresh (by assumption) (by assumption)).symm)).trans (by first | assumption | exact xu_s _ _ _ | exact (xu_n (by first | assumption | exact Ne.symm (by assumption) | exact xu_fresh (by assumption) (by assumption) | exact (xu_fresh (by assumption) (by assumption)).symm)).trans (by first | assumption | exact xu_s _ _ _)))) rfl ?_
    first | with_reducible refine x_icmp_geN (M := mX2_foldsAsNumber) (pc := 9) 30 dX2_foldsAsNumber_9 (by decide) (by omega) (by omega) (fun c => ?_) (fun c => ?_) | refine x_icmp_ge (M := mX2_foldsAsNumber) (pc := 9) 30 dX2_foldsAsNumber_9 (by decide) (fun c => ?_) (fun c => ?_)
    · refine x_iload_n (M := mX2_foldsAsNumber) (pc := 30) dX2_foldsAsNumber_30 rfl ?_
      refine x_iret (M := mX2_foldsAsNumber) (pc := 31) dX2_foldsAsNumber_31 rfl (by first | exact Nat.le_of_ble_eq_true rfl | omega) (by first | exact Nat.le_of_ble_eq_true rfl | omega) ?_
      exact hE
    · omega
  | succ n ih =>
    intro k hk
    refine x_iload_n (M := mX2_foldsAsNumber) (pc := 4) dX2_foldsAsNumber_4 rfl ?_
    refine x_aload_n (M := mX2_foldsAsNumber) (pc := 5) dX2_foldsAsNumber_5 rfl ?_
    refine x_get (M := mX2_foldsAsNumber) (pc := 6) kcX2 3 rfl q224 dX2_foldsAsNumber_6 (by first | assumption | exact xu_s _ _ _ | exact (xu_n (by first | assumption | exact Ne.symm (by assumption) | exact xu_fresh (by assumption) (by assumption) | exact (xu_fresh (by assumption) (by assumption)).symm)).trans (by first | assumption | exact xu_s _ _ _ | exact (xu_n (by first | assumption | exact Ne.symm (by assumption) | exact xu_fresh (by assumption) (by assumption) | exact (xu_fresh (by assumption) (by assumption)).symm)).trans (by first | assumption | exact xu_s _ _ _ | exact (xu_n (by first | assumption | exact Ne.symm (by assumption) | exact xu_fresh (by assumption) (by assumption) | exact (xu_fresh (by assumption) (by assumption)).symm)).trans (by first | assumption | exact xu_s _ _ _)))) rfl ?_
    first | with_reducible refine x_icmp_geN (M := mX2_foldsAsNumber) (pc := 9) 30 dX2_foldsAsNumber_9 (by decide) (by omega) (by omega) (fun c => ?_) (fun c => ?_) | refine x_icmp_ge (M := mX2_foldsAsNumber) (pc := 9) 30 dX2_foldsAsNumber_9 (by decide) (fun c => ?_) (fun c => ?_)
    · omega
    · refine x_bipush (M := mX2_foldsAsNumber) (pc := 12) (v := 10) dX2_foldsAsNumber_12 (by decide) ?_
      refine x_iload_n (M := mX2_foldsAsNumber) (pc := 14) dX2_foldsAsNumber_14 rfl ?_
      first | with_reducible refine x_imulN (M := mX2_foldsAsNumber) (pc := 15) dX2_foldsAsNumber_15 ?_ | refine x_imul (M := mX2_foldsAsNumber) (pc := 15) dX2_foldsAsNumber_15 ?_
      refine x_aload_n (M := mX2_foldsAsNumber) (pc := 16) dX2_foldsAsNumber_16 rfl ?_
      refine x_get (M := mX2_foldsAsNumber) (pc := 17) kcX2 2 rfl q218 dX2_foldsAsNumber_17 (by first | assumption | exact xu_s _ _ _ | exact (xu_n (by first | assumption | exact Ne.symm (by assumption) | exact xu_fresh (by assumption) (by assumption) | exact (xu_fresh (by assumption) (by assumption)).symm)).trans (by first | assumption | exact xu_s _ _ _ | exact (xu_n (by first | assumption | exact Ne.symm (by assumption) | exact xu_fresh (by assumption) (by assumption) | exact (xu_fresh (by assumption) (by assumption)).symm)).trans (by first | assumption | exact xu_s _ _ _ | exact (xu_n (by first | assumption | exact Ne.symm (by assumption) | exact xu_fresh (by assumption) (by assumption) | exact (xu_fresh (by assumption) (by assumption)).symm)).trans (by first | assumption | exact xu_s _ _ _)))) rfl ?_
      refine x_iload_n (M := mX2_foldsAsNumber) (pc := 20) dX2_foldsAsNumber_20 rfl ?_
      refine x_ialdN (M := mX2_foldsAsNumber) (pc := 21) _ dX2_foldsAsNumber_21 (by first | assumption | exact xu_s _ _ _ | exact (xu_n (by first | assumption | exact Ne.symm (by assumption) | exact xu_fresh (by assumption) (by assumption) | exact (xu_fresh (by assumption) (by assumption)).symm)).trans (by first | assumption | exact xu_s _ _ _ | exact (xu_n (by first | assumption | exact Ne.symm (by assumption) | exact xu_fresh (by assumption) (by assumption) | exact (xu_fresh (by assumption) (by assumption)).symm)).trans (by first | assumption | exact xu_s _ _ _ | exact (xu_n (by first | assumption | exact Ne.symm (by assumption) | exact xu_fresh (by assumption) (by assumption) | exact (xu_fresh (by assumption) (by assumption)).symm)).trans (by first | assumption | exact xu_s _ _ _)))) (by first | rfl | assumption) (by first | assumption | omega) (by first | decide | omega) ?_
      refine x_iadd (M := mX2_foldsAsNumber) (pc := 22) dX2_foldsAsNumber_22 ?_
      refine x_istore1 (M := mX2_foldsAsNumber) (pc := 23) dX2_foldsAsNumber_23 ?_
      first | refine x_iinc2N (M := mX2_foldsAsNumber) (pc := 24) (c := 1) dX2_foldsAsNumber_24 oI1 ?_ | refine x_iinc2 (M := mX2_foldsAsNumber) (pc := 24) (c := 1) dX2_foldsAsNumber_24 (by decide) ?_
      refine x_goto (M := mX2_foldsAsNumber) (pc := 27) 4 dX2_foldsAsNumber_27 (by decide) ?_
      rw [hv k (by omega)]
      exact ih (k + 1) (by omega)
theorem c_foldsNum (h : xH) (sh d : Nat) (P : Nat → Nat) (s : Row) (hW : WF s) (hsh : h sh = some (shE P s)) (hfo : aI g h 0 (P 0) 4 (fun k => s (3 + k))) : Ct g l mX2_foldsAsNumber d 0 0 [.ref sh] h (fun o h' => o = .inl (some (.int (p_fnow s (zNf s)))) ∧ h' = h) := by
  refine Ct.of [some (.ref sh), none, none] (by decide +kernel) rfl (Nat.le_of_ble_eq_true rfl) rfl rfl ?_
  refine x_iconst (M := mX2_foldsAsNumber) (pc := 0) (v := nI 0) dX2_foldsAsNumber_0 (by decide) ?_
  refine x_istore1 (M := mX2_foldsAsNumber) (pc := 1) dX2_foldsAsNumber_1 ?_
  refine x_iconst (M := mX2_foldsAsNumber) (pc := 2) (v := nI 0) dX2_foldsAsNumber_2 (by decide) ?_
  refine x_istore2 (M := mX2_foldsAsNumber) (pc := 3) dX2_foldsAsNumber_3 ?_
  exact c_fasL h sh d P s hW hsh hfo _ ⟨rfl, rfl⟩ (zNf s) 0 (by omega)
end SHEET
