/-! commands: whether they may be done -/
section CHECK
set_option maxRecDepth 100000
variable {g : xG} {l : Launch} {h h0 h' : xH}
def kC (r : CRes) : Int32 := match r with
  | .inl e => e
  | .inr _ => 0
theorem kkE {r : CRes} {e : Int32} (h : r = .inl e) : (Sum.inl (some (Value.int e)) : xO) = .inl (some (.int (kC r))) := by rw [h]; rfl
theorem kkO {r : CRes} {x : Int32 × Row} (h : r = .inr x) : (Sum.inl (some (Value.int (nI 0))) : xO) = .inl (some (.int (kC r))) := by rw [h]; rfl
theorem c_isSize (h : xH) (x : Int32) (d : Nat) : Ct g l mX4_isSize d 0 0 [.int x] h (fun o h' => o = .inl (some (.int (bI (isSz x)))) ∧ h' = h) := by
  refine Ct.of [some (.int x)] (by decide +kernel) rfl (Nat.le_of_ble_eq_true rfl) rfl rfl ?_
  refine x_iload_n (M := mX4_isSize) (pc := 0) dX4_isSize_0 rfl ?_
  refine x_iconst (M := mX4_isSize) (pc := 1) (v := nI 1) dX4_isSize_1 (by decide) ?_
  refine x_icmp_eq (M := mX4_isSize) (pc := 2) 15 dX4_isSize_2 (by decide) (fun r_a => ?_) (fun r_a => ?_)
  · refine x_iconst (M := mX4_isSize) (pc := 15) (v := nI 1) dX4_isSize_15 (by decide) ?_
    refine x_goto (M := mX4_isSize) (pc := 16) 20 dX4_isSize_16 (by decide) ?_
    refine x_zret (M := mX4_isSize) (pc := 20) dX4_isSize_20 rfl (by first | with_reducible exact xz0 | with_reducible exact xz1 | with_reducible exact bI_01 _ | with_reducible assumption | assumption) (by first | exact Nat.le_of_ble_eq_true rfl | omega) (by first | exact Nat.le_of_ble_eq_true rfl | omega) ?_
    exact ⟨congrArg Sum.inl (by first | exact vB1 (by simp_all [isSz, show nI 1 = 1 from rfl, show nI 2 = 2 from rfl, show nI 4 = 4 from rfl]) | exact vB0 (by simp_all [isSz, show nI 1 = 1 from rfl, show nI 2 = 2 from rfl, show nI 4 = 4 from rfl])), rfl⟩
  · refine x_iload_n (M := mX4_isSize) (pc := 5) dX4_isSize_5 rfl ?_
    refine x_iconst (M := mX4_isSize) (pc := 6) (v := nI 2) dX4_isSize_6 (by decide) ?_
    refine x_icmp_eq (M := mX4_isSize) (pc := 7) 15 dX4_isSize_7 (by decide) (fun r_b => ?_) (fun r_b => ?_)
    · refine x_iconst (M := mX4_isSize) (pc := 15) (v := nI 1) dX4_isSize_15 (by decide) ?_
      refine x_goto (M := mX4_isSize) (pc := 16) 20 dX4_isSize_16 (by decide) ?_
      refine x_zret (M := mX4_isSize) (pc := 20) dX4_isSize_20 rfl (by first | with_reducible exact xz0 | with_reducible exact xz1 | with_reducible exact bI_01 _ | with_reducible assumption | assumption) (by first | exact Nat.le_of_ble_eq_true rfl | omega) (by first | exact Nat.le_of_ble_eq_true rfl | omega) ?_
      exact ⟨congrArg Sum.inl (by first | exact vB1 (by simp_all [isSz, show nI 1 = 1 from rfl, show nI 2 = 2 from rfl, show nI 4 = 4 from rfl]) | exact vB0 (by simp_all [isSz, show nI 1 = 1 from rfl, show nI 2 = 2 from rfl, show nI 4 = 4 from rfl])), rfl⟩
    · refine x_iload_n (M := mX4_isSize) (pc := 10) dX4_isSize_10 rfl ?_
      refine x_iconst (M := mX4_isSize) (pc := 11) (v := nI 4) dX4_isSize_11 (by decide) ?_
      refine x_icmp_ne (M := mX4_isSize) (pc := 12) 19 dX4_isSize_12 (by decide) (fun r_c => ?_) (fun r_c => ?_)
      · refine x_iconst (M := mX4_isSize) (pc := 19) (v := nI 0) dX4_isSize_19 (by decide) ?_
        refine x_zret (M := mX4_isSize) (pc := 20) dX4_isSize_20 rfl (by first | with_reducible exact xz0 | with_reducible exact xz1 | with_reducible exact bI_01 _ | with_reducible assumption | assumption) (by first | exact Nat.le_of_ble_eq_true rfl | omega) (by first | exact Nat.le_of_ble_eq_true rfl | omega) ?_
        exact ⟨congrArg Sum.inl (by first | exact vB1 (by simp_all [isSz, show nI 1 = 1 from rfl, show nI 2 = 2 from rfl, show nI 4 = 4 from rfl]) | exact vB0 (by simp_all [isSz, show nI 1 = 1 from rfl, show nI 2 = 2 from rfl, show nI 4 = 4 from rfl])), rfl⟩
      · refine x_iconst (M := mX4_isSize) (pc := 15) (v := nI 1) dX4_isSize_15 (by decide) ?_
        refine x_goto (M := mX4_isSize) (pc := 16) 20 dX4_isSize_16 (by decide) ?_
        refine x_zret (M := mX4_isSize) (pc := 20) dX4_isSize_20 rfl (by first | with_reducible exact xz0 | with_reducible exact xz1 | with_reducible exact bI_01 _ | with_reducible assumption | assumption) (by first | exact Nat.le_of_ble_eq_true rfl | omega) (by first | exact Nat.le_of_ble_eq_true rfl | omega) ?_
        exact ⟨congrArg Sum.inl (by first | exact vB1 (by simp_all [isSz, show nI 1 = 1 from rfl, show nI 2 = 2 from rfl, show nI 4 = 4 from rfl]) | exact vB0 (by simp_all [isSz, show nI 1 = 1 from rfl, show nI 2 = 2 from rfl, show nI 4 = 4 from rfl])), rfl⟩
theorem ck_setSheet (h : xH) (cm sh d : Nat) (hd : 1 ≤ d) (s : Row) (x y : Int32) (hc : h cm = some (.inr (4, [.int x, .int y]))) : Ct g l mX4_check d 0 0 [.ref cm, .ref sh] h (fun o h' => o = .inl (some (.int (kC (c_setSheet s x y)))) ∧ h' = h) := by
  refine Ct.of [some (.ref cm), some (.ref sh)] (by decide +kernel) rfl (Nat.le_of_ble_eq_true rfl) rfl rfl ?_
  refine x_aload_n (M := mX4_check) (pc := 0) dX4_check_0 rfl ?_
  refine x_get (M := mX4_check) (pc := 1) kcX4 0 rfl q391 dX4_check_1 (by first | assumption | exact xu_s _ _ _ | exact (xu_n (by first | assumption | exact Ne.symm (by assumption) | exact xu_fresh (by assumption) (by assumption) | exact (xu_fresh (by assumption) (by assumption)).symm)).trans (by first | assumption | exact xu_s _ _ _ | exact (xu_n (by first | assumption | exact Ne.symm (by assumption) | exact xu_fresh (by assumption) (by assumption) | exact (xu_fresh (by assumption) (by assumption)).symm)).trans (by first | assumption | exact xu_s _ _ _ | exact (xu_n (by first | assumption | exact Ne.symm (by assumption) | exact xu_fresh (by assumption) (by assumption) | exact (xu_fresh (by assumption) (by assumption)).symm)).trans (by first | assumption | exact xu_s _ _ _)))) rfl ?_
  refine x_S1 (M := mX4_check) (pc := 4) (M' := mX4_isSize) q558 kSX4_isSize dX4_check_4 (c_isSize h x (d - 1)) (fun v_ h hq_ => ?_)
  obtain ⟨hv_, rfl⟩ := hq_; cases hv_
  first | with_reducible refine x_ifB_eq (M := mX4_check) (pc := 7) 24 dX4_check_7 (by decide) (fun c7 => ?_) (fun c7 => ?_) | with_reducible refine x_if_eqN (M := mX4_check) (pc := 7) 24 dX4_check_7 (by decide) (by omega) (fun c7 => ?_) (fun c7 => ?_) | refine x_if_eq (M := mX4_check) (pc := 7) 24 dX4_check_7 (by decide) (fun c7 => ?_) (fun c7 => ?_)
  rotate_left
  refine x_aload_n (M := mX4_check) (pc := 10) dX4_check_10 rfl ?_
  refine x_get (M := mX4_check) (pc := 11) kcX4 1 rfl q392 dX4_check_11 (by first | assumption | exact xu_s _ _ _ | exact (xu_n (by first | assumption | exact Ne.symm (by assumption) | exact xu_fresh (by assumption) (by assumption) | exact (xu_fresh (by assumption) (by assumption)).symm)).trans (by first | assumption | exact xu_s _ _ _ | exact (xu_n (by first | assumption | exact Ne.symm (by assumption) | exact xu_fresh (by assumption) (by assumption) | exact (xu_fresh (by assumption) (by assumption)).symm)).trans (by first | assumption | exact xu_s _ _ _ | exact (xu_n (by first | assumption | exact Ne.symm (by assumption) | exact xu_fresh (by assumption) (by assumption) | exact (xu_fresh (by assumption) (by assumption)).symm)).trans (by first | assumption | exact xu_s _ _ _)))) rfl ?_
  refine x_S1 (M := mX4_check) (pc := 14) (M' := mX4_isSize) q558 kSX4_isSize dX4_check_14 (c_isSize h y (d - 1)) (fun v_ h hq_ => ?_)
  obtain ⟨hv_, rfl⟩ := hq_; cases hv_
  first | with_reducible refine x_ifB_eq (M := mX4_check) (pc := 17) 24 dX4_check_17 (by decide) (fun c17 => ?_) (fun c17 => ?_) | with_reducible refine x_if_eqN (M := mX4_check) (pc := 17) 24 dX4_check_17 (by decide) (by omega) (fun c17 => ?_) (fun c17 => ?_) | refine x_if_eq (M := mX4_check) (pc := 17) 24 dX4_check_17 (by decide) (fun c17 => ?_) (fun c17 => ?_)
  rotate_left
  rotate_left
  · refine x_iconst (M := mX4_check) (pc := 24) (v := (-1)) dX4_check_24 (by decide) ?_
    refine x_iret (M := mX4_check) (pc := 25) dX4_check_25 rfl (by first | exact Nat.le_of_ble_eq_true rfl | omega) (by first | exact Nat.le_of_ble_eq_true rfl | omega) ?_
    exact ⟨kkE (by unfold c_setSheet; rw [c7]; rfl), rfl⟩
  · refine x_iconst (M := mX4_check) (pc := 24) (v := (-1)) dX4_check_24 (by decide) ?_
    refine x_iret (M := mX4_check) (pc := 25) dX4_check_25 rfl (by first | exact Nat.le_of_ble_eq_true rfl | omega) (by first | exact Nat.le_of_ble_eq_true rfl | omega) ?_
    exact ⟨kkE (by unfold c_setSheet; rw [c7, c17]; rfl), rfl⟩
  · refine x_iconst (M := mX4_check) (pc := 20) (v := nI 0) dX4_check_20 (by decide) ?_
    refine x_goto (M := mX4_check) (pc := 21) 25 dX4_check_21 (by decide) ?_
    refine x_iret (M := mX4_check) (pc := 25) dX4_check_25 rfl (by first | exact Nat.le_of_ble_eq_true rfl | omega) (by first | exact Nat.le_of_ble_eq_true rfl | omega) ?_
    exact ⟨kkO (by unfold c_setSheet; rw [c7, c17]; rfl), rfl⟩
theorem ck_legs (h : xH) (cm sh d : Nat) (hd : 1 ≤ d) (s : Row) (x : Int32) (hc : h cm = some (.inr (18, [.int x]))) : Ct g l mX19_check d 0 0 [.ref cm, .ref sh] h (fun o h' => o = .inl (some (.int (kC (c_setLegs s x)))) ∧ h' = h) := by
  refine Ct.of [some (.ref cm), some (.ref sh)] (by decide +kernel) rfl (Nat.le_of_ble_eq_true rfl) rfl rfl ?_
  refine x_aload_n (M := mX19_check) (pc := 0) dX19_check_0 rfl ?_
  refine x_get (M := mX19_check) (pc := 1) kcX19 0 rfl q1495 dX19_check_1 (by first | assumption | exact xu_s _ _ _ | exact (xu_n (by first | assumption | exact Ne.symm (by assumption) | exact xu_fresh (by assumption) (by assumption) | exact (xu_fresh (by assumption) (by assumption)).symm)).trans (by first | assumption | exact xu_s _ _ _ | exact (xu_n (by first | assumption | exact Ne.symm (by assumption) | exact xu_fresh (by assumption) (by assumption) | exact (xu_fresh (by assumption) (by assumption)).symm)).trans (by first | assumption | exact xu_s _ _ _ | exact (xu_n (by first | assumption | exact Ne.symm (by assumption) | exact xu_fresh (by assumption) (by assumption) | exact (xu_fresh (by assumption) (by assumption)).symm)).trans (by first | assumption | exact xu_s _ _ _)))) rfl ?_
  refine x_iconst (M := mX19_check) (pc := 4) (v := nI 1) dX19_check_4 (by decide) ?_
  refine x_bipush (M := mX19_check) (pc := 5) (v := nI 16) dX19_check_5 (by decide) ?_
  refine x_SN3 (M := mX19_check) (pc := 7) (M' := mX0_isIn) q544 kSX0_isIn dX19_check_7 (c_isIn h x 1 16 (d - 1)) (fun v_ h hq_ => ?_)
  obtain ⟨hv_, rfl⟩ := hq_; cases hv_
  first | with_reducible refine x_ifB_eq (M := mX19_check) (pc := 10) 17 dX19_check_10 (by decide) (fun c10 => ?_) (fun c10 => ?_) | with_reducible refine x_if_eqN (M := mX19_check) (pc := 10) 17 dX19_check_10 (by decide) (by omega) (fun c10 => ?_) (fun c10 => ?_) | refine x_if_eq (M := mX19_check) (pc := 10) 17 dX19_check_10 (by decide) (fun c10 => ?_) (fun c10 => ?_)
  rotate_left
  rotate_left
  · refine x_iconst (M := mX19_check) (pc := 17) (v := (-1)) dX19_check_17 (by decide) ?_
    refine x_iret (M := mX19_check) (pc := 18) dX19_check_18 rfl (by first | exact Nat.le_of_ble_eq_true rfl | omega) (by first | exact Nat.le_of_ble_eq_true rfl | omega) ?_
    exact ⟨kkE (by unfold c_setLegs; rw [if_pos c10]), rfl⟩
  · refine x_iconst (M := mX19_check) (pc := 13) (v := nI 0) dX19_check_13 (by decide) ?_
    refine x_goto (M := mX19_check) (pc := 14) 18 dX19_check_14 (by decide) ?_
    refine x_iret (M := mX19_check) (pc := 18) dX19_check_18 rfl (by first | exact Nat.le_of_ble_eq_true rfl | omega) (by first | exact Nat.le_of_ble_eq_true rfl | omega) ?_
    exact ⟨kkO (by unfold c_setLegs; rw [if_neg (by rw [c10]; decide)]), rfl⟩
theorem ck_lines (h : xH) (cm sh d : Nat) (hd : 1 ≤ d) (s : Row) (x : Int32) (hc : h cm = some (.inr (22, [.int x]))) : Ct g l mX24_check d 0 0 [.ref cm, .ref sh] h (fun o h' => o = .inl (some (.int (kC (c_setLines s x)))) ∧ h' = h) := by
  refine Ct.of [some (.ref cm), some (.ref sh)] (by decide +kernel) rfl (Nat.le_of_ble_eq_true rfl) rfl rfl ?_
  refine x_aload_n (M := mX24_check) (pc := 0) dX24_check_0 rfl ?_
  refine x_get (M := mX24_check) (pc := 1) kcX24 0 rfl q1577 dX24_check_1 (by first | assumption | exact xu_s _ _ _ | exact (xu_n (by first | assumption | exact Ne.symm (by assumption) | exact xu_fresh (by assumption) (by assumption) | exact (xu_fresh (by assumption) (by assumption)).symm)).trans (by first | assumption | exact xu_s _ _ _ | exact (xu_n (by first | assumption | exact Ne.symm (by assumption) | exact xu_fresh (by assumption) (by assumption) | exact (xu_fresh (by assumption) (by assumption)).symm)).trans (by first | assumption | exact xu_s _ _ _ | exact (xu_n (by first | assumption | exact Ne.symm (by assumption) | exact xu_fresh (by assumption) (by assumption) | exact (xu_fresh (by assumption) (by assumption)).symm)).trans (by first | assumption | exact xu_s _ _ _)))) rfl ?_
  refine x_iconst (M := mX24_check) (pc := 4) (v := nI 1) dX24_check_4 (by decide) ?_
  refine x_bipush (M := mX24_check) (pc := 5) (v := nI 9) dX24_check_5 (by decide) ?_
  refine x_SN3 (M := mX24_check) (pc := 7) (M' := mX0_isIn) q551 kSX0_isIn dX24_check_7 (c_isIn h x 1 9 (d - 1)) (fun v_ h hq_ => ?_)
  obtain ⟨hv_, rfl⟩ := hq_; cases hv_
  first | with_reducible refine x_ifB_eq (M := mX24_check) (pc := 10) 17 dX24_check_10 (by decide) (fun c10 => ?_) (fun c10 => ?_) | with_reducible refine x_if_eqN (M := mX24_check) (pc := 10) 17 dX24_check_10 (by decide) (by omega) (fun c10 => ?_) (fun c10 => ?_) | refine x_if_eq (M := mX24_check) (pc := 10) 17 dX24_check_10 (by decide) (fun c10 => ?_) (fun c10 => ?_)
  rotate_left
  rotate_left
  · refine x_iconst (M := mX24_check) (pc := 17) (v := (-1)) dX24_check_17 (by decide) ?_
    refine x_iret (M := mX24_check) (pc := 18) dX24_check_18 rfl (by first | exact Nat.le_of_ble_eq_true rfl | omega) (by first | exact Nat.le_of_ble_eq_true rfl | omega) ?_
    exact ⟨kkE (by unfold c_setLines; rw [if_pos c10]), rfl⟩
  · refine x_iconst (M := mX24_check) (pc := 13) (v := nI 0) dX24_check_13 (by decide) ?_
    refine x_goto (M := mX24_check) (pc := 14) 18 dX24_check_14 (by decide) ?_
    refine x_iret (M := mX24_check) (pc := 18) dX24_check_18 rfl (by first | exact Nat.le_of_ble_eq_true rfl | omega) (by first | exact Nat.le_of_ble_eq_true rfl | omega) ?_
    exact ⟨kkO (by unfold c_setLines; rw [if_neg (by rw [c10]; decide)]), rfl⟩
theorem ck_forget (h : xH) (cm sh d : Nat) (s : Row) : Ct g l mX21_check d 0 0 [.ref cm, .ref sh] h (fun o h' => o = .inl (some (.int (kC (c_forget s)))) ∧ h' = h) := by
  refine Ct.of [some (.ref cm), some (.ref sh)] (by decide +kernel) rfl (Nat.le_of_ble_eq_true rfl) rfl rfl ?_
  refine x_iconst (M := mX21_check) (pc := 0) (v := nI 0) dX21_check_0 (by decide) ?_
  refine x_iret (M := mX21_check) (pc := 1) dX21_check_1 rfl (by first | exact Nat.le_of_ble_eq_true rfl | omega) (by first | exact Nat.le_of_ble_eq_true rfl | omega) ?_
  exact ⟨kkO rfl, rfl⟩
theorem ck_spine (h : xH) (cm sh d : Nat) (hd : 2 ≤ d) (P : Nat → Nat) (s : Row) (hW : WF s) (x : Int32) (hsh : h sh = some (shE P s)) (hc : h cm = some (.inr (12, [.int x]))) : Ct g l mX13_check d 0 0 [.ref cm, .ref sh] h (fun o h' => o = .inl (some (.int (kC (c_setSpine s x)))) ∧ h' = h) := by
  have h9 := hW.2.2.2.1
  have e9 : s 9 ≠ 0 ↔ zN s 9 ≠ 0 := by rw [h9.1]; exact not_congr (nI_z0 (by omega))
  unfold shE at hsh
  refine Ct.of [some (.ref cm), some (.ref sh)] (by decide +kernel) rfl (Nat.le_of_ble_eq_true rfl) rfl rfl ?_
  refine x_aload_n (M := mX13_check) (pc := 0) dX13_check_0 rfl ?_
  refine x_get (M := mX13_check) (pc := 1) kcX13 0 rfl q1399 dX13_check_1 (by first | assumption | exact xu_s _ _ _ | exact (xu_n (by first | assumption | exact Ne.symm (by assumption) | exact xu_fresh (by assumption) (by assumption) | exact (xu_fresh (by assumption) (by assumption)).symm)).trans (by first | assumption | exact xu_s _ _ _ | exact (xu_n (by first | assumption | exact Ne.symm (by assumption) | exact xu_fresh (by assumption) (by assumption) | exact (xu_fresh (by assumption) (by assumption)).symm)).trans (by first | assumption | exact xu_s _ _ _ | exact (xu_n (by first | assumption | exact Ne.symm (by assumption) | exact xu_fresh (by assumption) (by assumption) | exact (xu_fresh (by assumption) (by assumption)).symm)).trans (by first | assumption | exact xu_s _ _ _)))) rfl ?_
  refine x_SN1 (M := mX13_check) (pc := 4) (M' := mX0_isBit) q610 kSX0_isBit dX13_check_4 (c_isBit h x (d - 1) (by omega)) (fun v_ h hq_ => ?_)
  obtain ⟨hv_, rfl⟩ := hq_; cases hv_
  first | with_reducible refine x_ifB_ne (M := mX13_check) (pc := 7) 14 dX13_check_7 (by decide) (fun c7 => ?_) (fun c7 => ?_) | with_reducible refine x_if_neN (M := mX13_check) (pc := 7) 14 dX13_check_7 (by decide) (by omega) (fun c7 => ?_) (fun c7 => ?_) | refine x_if_ne (M := mX13_check) (pc := 7) 14 dX13_check_7 (by decide) (fun c7 => ?_) (fun c7 => ?_)
  refine x_aload_n (M := mX13_check) (pc := 14) dX13_check_14 rfl ?_
  refine x_getN (M := mX13_check) (pc := 15) kcX2 8 rfl q243 dX13_check_15 (by first | assumption | exact xu_s _ _ _ | exact (xu_n (by first | assumption | exact Ne.symm (by assumption) | exact xu_fresh (by assumption) (by assumption) | exact (xu_fresh (by assumption) (by assumption)).symm)).trans (by first | assumption | exact xu_s _ _ _ | exact (xu_n (by first | assumption | exact Ne.symm (by assumption) | exact xu_fresh (by assumption) (by assumption) | exact (xu_fresh (by assumption) (by assumption)).symm)).trans (by first | assumption | exact xu_s _ _ _ | exact (xu_n (by first | assumption | exact Ne.symm (by assumption) | exact xu_fresh (by assumption) (by assumption) | exact (xu_fresh (by assumption) (by assumption)).symm)).trans (by first | assumption | exact xu_s _ _ _)))) rfl ?_
  first | with_reducible refine x_ifB_eq (M := mX13_check) (pc := 18) 26 dX13_check_18 (by decide) (fun c18 => ?_) (fun c18 => ?_) | with_reducible refine x_if_eqN (M := mX13_check) (pc := 18) 26 dX13_check_18 (by decide) (by omega) (fun c18 => ?_) (fun c18 => ?_) | refine x_if_eq (M := mX13_check) (pc := 18) 26 dX13_check_18 (by decide) (fun c18 => ?_) (fun c18 => ?_)
  rotate_left
  rotate_left
  rotate_left
  · refine x_iconst (M := mX13_check) (pc := 26) (v := nI 0) dX13_check_26 (by decide) ?_
    refine x_iret (M := mX13_check) (pc := 27) dX13_check_27 rfl (by first | exact Nat.le_of_ble_eq_true rfl | omega) (by first | exact Nat.le_of_ble_eq_true rfl | omega) ?_
    exact ⟨kkO (by unfold c_setSpine; rw [if_neg (by rw [c7]; decide), if_neg (fun z => e9.mp z c18)]), rfl⟩
  · refine x_bipush (M := mX13_check) (pc := 21) (v := (-2)) dX13_check_21 (by decide) ?_
    refine x_goto (M := mX13_check) (pc := 23) 27 dX13_check_23 (by decide) ?_
    refine x_iret (M := mX13_check) (pc := 27) dX13_check_27 rfl (by first | exact Nat.le_of_ble_eq_true rfl | omega) (by first | exact Nat.le_of_ble_eq_true rfl | omega) ?_
    exact ⟨kkE (by unfold c_setSpine; rw [if_neg (by rw [c7]; decide), if_pos (e9.mpr c18)]), rfl⟩
  · refine x_iconst (M := mX13_check) (pc := 10) (v := (-1)) dX13_check_10 (by decide) ?_
    refine x_goto (M := mX13_check) (pc := 11) 27 dX13_check_11 (by decide) ?_
    refine x_iret (M := mX13_check) (pc := 27) dX13_check_27 rfl (by first | exact Nat.le_of_ble_eq_true rfl | omega) (by first | exact Nat.le_of_ble_eq_true rfl | omega) ?_
    exact ⟨kkE (by unfold c_setSpine; rw [if_pos c7]), rfl⟩
theorem ck_unfold (h : xH) (cm sh d : Nat) (hd : 1 ≤ d) (P : Nat → Nat) (s : Row) (hW : WF s) (hsh : h sh = some (shE P s)) : Ct g l mX12_check d 0 0 [.ref cm, .ref sh] h (fun o h' => o = .inl (some (.int (kC (c_unfold s)))) ∧ h' = h) := by
  have hb := hW.b
  have hi := xIs.of (g := g) kcX2 hsh
  have hsh0 := hsh
  unfold shE at hsh
  refine Ct.of [some (.ref cm), some (.ref sh)] (by decide +kernel) rfl (Nat.le_of_ble_eq_true rfl) rfl rfl ?_
  refine x_aload_n (M := mX12_check) (pc := 0) dX12_check_0 rfl ?_
  refine x_V0 (M := mX12_check) (pc := 1) (M' := mX2_isWorked) q632 kVX2_isWorked dX12_check_1 (c_isWorked h sh (d - 1) P s hW hsh0) (hi) (fun v_ h hq_ => ?_)
  obtain ⟨hv_, rfl⟩ := hq_; cases hv_
  first | with_reducible refine x_ifB_ne (M := mX12_check) (pc := 4) 14 dX12_check_4 (by decide) (fun c4 => ?_) (fun c4 => ?_) | with_reducible refine x_if_neN (M := mX12_check) (pc := 4) 14 dX12_check_4 (by decide) (by omega) (fun c4 => ?_) (fun c4 => ?_) | refine x_if_ne (M := mX12_check) (pc := 4) 14 dX12_check_4 (by decide) (fun c4 => ?_) (fun c4 => ?_)
  rotate_left
  refine x_aload_n (M := mX12_check) (pc := 7) dX12_check_7 rfl ?_
  refine x_getN (M := mX12_check) (pc := 8) kcX2 3 rfl q220 dX12_check_8 (by first | assumption | exact xu_s _ _ _ | exact (xu_n (by first | assumption | exact Ne.symm (by assumption) | exact xu_fresh (by assumption) (by assumption) | exact (xu_fresh (by assumption) (by assumption)).symm)).trans (by first | assumption | exact xu_s _ _ _ | exact (xu_n (by first | assumption | exact Ne.symm (by assumption) | exact xu_fresh (by assumption) (by assumption) | exact (xu_fresh (by assumption) (by assumption)).symm)).trans (by first | assumption | exact xu_s _ _ _ | exact (xu_n (by first | assumption | exact Ne.symm (by assumption) | exact xu_fresh (by assumption) (by assumption) | exact (xu_fresh (by assumption) (by assumption)).symm)).trans (by first | assumption | exact xu_s _ _ _)))) rfl ?_
  first | with_reducible refine x_ifB_ne (M := mX12_check) (pc := 11) 19 dX12_check_11 (by decide) (fun c11 => ?_) (fun c11 => ?_) | with_reducible refine x_if_neN (M := mX12_check) (pc := 11) 19 dX12_check_11 (by decide) (by omega) (fun c11 => ?_) (fun c11 => ?_) | refine x_if_ne (M := mX12_check) (pc := 11) 19 dX12_check_11 (by decide) (fun c11 => ?_) (fun c11 => ?_)
  rotate_left
  rotate_left
  · refine x_bipush (M := mX12_check) (pc := 14) (v := (-2)) dX12_check_14 (by decide) ?_
    refine x_goto (M := mX12_check) (pc := 16) 20 dX12_check_16 (by decide) ?_
    refine x_iret (M := mX12_check) (pc := 20) dX12_check_20 rfl (by first | exact Nat.le_of_ble_eq_true rfl | omega) (by first | exact Nat.le_of_ble_eq_true rfl | omega) ?_
    exact ⟨kkE (by unfold c_unfold; rw [if_pos (Or.inr c4)]), rfl⟩
  · refine x_iconst (M := mX12_check) (pc := 19) (v := nI 0) dX12_check_19 (by decide) ?_
    refine x_iret (M := mX12_check) (pc := 20) dX12_check_20 rfl (by first | exact Nat.le_of_ble_eq_true rfl | omega) (by first | exact Nat.le_of_ble_eq_true rfl | omega) ?_
    exact ⟨kkO (by unfold c_unfold; rw [if_neg (by rw [c4]; simp; exact c11)]), rfl⟩
  · refine x_bipush (M := mX12_check) (pc := 14) (v := (-2)) dX12_check_14 (by decide) ?_
    refine x_goto (M := mX12_check) (pc := 16) 20 dX12_check_16 (by decide) ?_
    refine x_iret (M := mX12_check) (pc := 20) dX12_check_20 rfl (by first | exact Nat.le_of_ble_eq_true rfl | omega) (by first | exact Nat.le_of_ble_eq_true rfl | omega) ?_
    exact ⟨kkE (by unfold c_unfold; rw [if_pos (Or.inl c11)]), rfl⟩
theorem clamp1 {n : Nat} (hn : n < 100) : (nI n).toNatClampNeg = n := nI_clamp (by omega)
theorem ck_fold (h : xH) (cm sh d : Nat) (hd : 6 ≤ d) (P : Nat → Nat) (s : Row) (xs ys : List Nat) (hW : WF s) (hS : SHP g h sh P s xs ys) (x : Int32) (hc : h cm = some (.inr (11, [.int x]))) : Ct g l mX11_check d 70 195 [.ref cm, .ref sh] h (fun o h' => o = .inl (some (.int (kC (c_fold s x)))) ∧ xle h h') := by
  have hb := hW.b
  refine Ct.of [some (.ref cm), some (.ref sh)] (by decide +kernel) rfl (Nat.le_of_ble_eq_true rfl) rfl rfl ?_
  refine x_aload_n (M := mX11_check) (pc := 0) dX11_check_0 rfl ?_
  refine x_get (M := mX11_check) (pc := 1) kcX11 0 rfl q1374 dX11_check_1 (by first | assumption | exact xu_s _ _ _ | exact (xu_n (by first | assumption | exact Ne.symm (by assumption) | exact xu_fresh (by assumption) (by assumption) | exact (xu_fresh (by assumption) (by assumption)).symm)).trans (by first | assumption | exact xu_s _ _ _ | exact (xu_n (by first | assumption | exact Ne.symm (by assumption) | exact xu_fresh (by assumption) (by assumption) | exact (xu_fresh (by assumption) (by assumption)).symm)).trans (by first | assumption | exact xu_s _ _ _ | exact (xu_n (by first | assumption | exact Ne.symm (by assumption) | exact xu_fresh (by assumption) (by assumption) | exact (xu_fresh (by assumption) (by assumption)).symm)).trans (by first | assumption | exact xu_s _ _ _)))) rfl ?_
  refine x_iconst (M := mX11_check) (pc := 4) (v := nI 1) dX11_check_4 (by decide) ?_
  refine x_iconst (M := mX11_check) (pc := 5) (v := nI 4) dX11_check_5 (by decide) ?_
  refine x_SN3 (M := mX11_check) (pc := 6) (M' := mX0_isIn) q451 kSX0_isIn dX11_check_6 (c_isIn h x 1 4 (d - 1)) (fun v_ h hq_ => ?_)
  obtain ⟨hv_, rfl⟩ := hq_; cases hv_
  first | with_reducible refine x_ifB_ne (M := mX11_check) (pc := 9) 14 dX11_check_9 (by decide) (fun c9 => ?_) (fun c9 => ?_) | with_reducible refine x_if_neN (M := mX11_check) (pc := 9) 14 dX11_check_9 (by decide) (by omega) (fun c9 => ?_) (fun c9 => ?_) | refine x_if_ne (M := mX11_check) (pc := 9) 14 dX11_check_9 (by decide) (fun c9 => ?_) (fun c9 => ?_)
  rotate_left
  rotate_left
  · obtain ⟨n, rfl, hn1, hn4⟩ := bIn_n (a := 1) (b := 4) (by omega) (by omega) c9
    refine x_aload_n (M := mX11_check) (pc := 14) dX11_check_14 rfl ?_
    refine x_V0 (M := mX11_check) (pc := 15) (M' := mX2_isWorked) q452 kVX2_isWorked dX11_check_15 (c_isWorked h sh (d - 1) P s hW hS.1) (hS.is) (fun v_ h hq_ => ?_)
    obtain ⟨hv_, rfl⟩ := hq_; cases hv_
    first | with_reducible refine x_ifB_ne (M := mX11_check) (pc := 18) 35 dX11_check_18 (by decide) (fun c18 => ?_) (fun c18 => ?_) | with_reducible refine x_if_neN (M := mX11_check) (pc := 18) 35 dX11_check_18 (by decide) (by omega) (fun c18 => ?_) (fun c18 => ?_) | refine x_if_ne (M := mX11_check) (pc := 18) 35 dX11_check_18 (by decide) (fun c18 => ?_) (fun c18 => ?_)
    rotate_left
    refine x_aload_n (M := mX11_check) (pc := 21) dX11_check_21 rfl ?_
    refine x_V0 (M := mX11_check) (pc := 22) (M' := mX2_folding) q456 kVX2_folding dX11_check_22 (c_foldingS h sh (d - 1) (by omega) P s xs ys hS hW) (hS.is) (fun v_ h hq_ => ?_)
    obtain ⟨fo, hv_, hF⟩ := hq_; cases hv_
    rotate_left
    · refine x_bipush (M := mX11_check) (pc := 35) (v := (-2)) dX11_check_35 (by decide) ?_
      refine x_goto (M := mX11_check) (pc := 37) 41 dX11_check_37 (by decide) ?_
      refine x_iret (M := mX11_check) (pc := 41) dX11_check_41 rfl (by first | exact Nat.le_of_ble_eq_true rfl | omega) (by first | exact Nat.le_of_ble_eq_true rfl | omega) ?_
      exact ⟨kkE (by unfold c_fold; rw [if_neg (by rw [c9]; decide), if_pos (Or.inr c18)]), xle.rf⟩
    · obtain ⟨o1, o2⟩ := p_layn_ok hW.ok (zNf s) hW.1.2.2.2.2.2
      obtain ⟨o3, o4, -⟩ := p_ok_b o1
      have hle := hF.le
      have his := hF.is
      obtain ⟨PL, pl, La, f1, -⟩ := hF
      have hc2 := hle _ _ hc
      refine x_aload_n (M := mX11_check) (pc := 25) dX11_check_25 rfl ?_
      refine x_get (M := mX11_check) (pc := 26) kcX11 0 rfl q1374 dX11_check_26 (by first | assumption | exact xu_s _ _ _ | exact (xu_n (by first | assumption | exact Ne.symm (by assumption) | exact xu_fresh (by assumption) (by assumption) | exact (xu_fresh (by assumption) (by assumption)).symm)).trans (by first | assumption | exact xu_s _ _ _ | exact (xu_n (by first | assumption | exact Ne.symm (by assumption) | exact xu_fresh (by assumption) (by assumption) | exact (xu_fresh (by assumption) (by assumption)).symm)).trans (by first | assumption | exact xu_s _ _ _ | exact (xu_n (by first | assumption | exact Ne.symm (by assumption) | exact xu_fresh (by assumption) (by assumption) | exact (xu_fresh (by assumption) (by assumption)).symm)).trans (by first | assumption | exact xu_s _ _ _)))) rfl ?_
      refine x_V1 (M := mX11_check) (pc := 29) (M' := mX5_canFold) q528 kVX5_canFold dX11_check_29 (c_canFold h fo _ _ n (d - 1) _ (by omega) f1 (by omega) (by omega) (by omega)) (his) (fun v_ h hq_ => ?_)
      obtain ⟨hv_, rfl⟩ := hq_; cases hv_
      first | with_reducible refine x_ifB_ne (M := mX11_check) (pc := 32) 40 dX11_check_32 (by decide) (fun c32 => ?_) (fun c32 => ?_) | with_reducible refine x_if_neN (M := mX11_check) (pc := 32) 40 dX11_check_32 (by decide) (by omega) (fun c32 => ?_) (fun c32 => ?_) | refine x_if_ne (M := mX11_check) (pc := 32) 40 dX11_check_32 (by decide) (fun c32 => ?_) (fun c32 => ?_)
      rotate_left
      rotate_left
      · refine x_iconst (M := mX11_check) (pc := 40) (v := nI 0) dX11_check_40 (by decide) ?_
        refine x_iret (M := mX11_check) (pc := 41) dX11_check_41 rfl (by first | exact Nat.le_of_ble_eq_true rfl | omega) (by first | exact Nat.le_of_ble_eq_true rfl | omega) ?_
        exact ⟨kkO (by unfold c_fold; rw [if_neg (by rw [c9]; decide), if_neg (by rw [clamp1 (by omega), c18]; unfold zMay zLay; rw [c32]; decide)]), hle⟩
      · refine x_bipush (M := mX11_check) (pc := 35) (v := (-2)) dX11_check_35 (by decide) ?_
        refine x_goto (M := mX11_check) (pc := 37) 41 dX11_check_37 (by decide) ?_
        refine x_iret (M := mX11_check) (pc := 41) dX11_check_41 rfl (by first | exact Nat.le_of_ble_eq_true rfl | omega) (by first | exact Nat.le_of_ble_eq_true rfl | omega) ?_
        exact ⟨kkE (by unfold c_fold; rw [if_neg (by rw [c9]; decide), if_pos (Or.inl (by rw [clamp1 (by omega)]; unfold zMay zLay; exact c32))]), hle⟩
  · refine x_iconst (M := mX11_check) (pc := 12) (v := (-1)) dX11_check_12 (by decide) ?_
    refine x_iret (M := mX11_check) (pc := 13) dX11_check_13 rfl (by first | exact Nat.le_of_ble_eq_true rfl | omega) (by first | exact Nat.le_of_ble_eq_true rfl | omega) ?_
    exact ⟨kkE (by unfold c_fold; rw [if_pos c9]), xle.rf⟩
theorem ck_printAll (h : xH) (cm sh d : Nat) (hd : 2 ≤ d) (P : Nat → Nat) (s : Row) (hW : WF s) (x : Int32) (hsh : h sh = some (shE P s)) (hc : h cm = some (.inr (14, [.int x]))) : Ct g l mX15_check d 0 0 [.ref cm, .ref sh] h (fun o h' => o = .inl (some (.int (kC (c_printAll s x)))) ∧ h' = h) := by
  have hb := hW.b
  have hi := xIs.of (g := g) kcX2 hsh
  have hsh0 := hsh
  unfold shE at hsh
  refine Ct.of [some (.ref cm), some (.ref sh)] (by decide +kernel) rfl (Nat.le_of_ble_eq_true rfl) rfl rfl ?_
  refine x_aload_n (M := mX15_check) (pc := 0) dX15_check_0 rfl ?_
  refine x_aload_n (M := mX15_check) (pc := 1) dX15_check_1 rfl ?_
  refine x_get (M := mX15_check) (pc := 2) kcX15 0 rfl q1439 dX15_check_2 (by first | assumption | exact xu_s _ _ _ | exact (xu_n (by first | assumption | exact Ne.symm (by assumption) | exact xu_fresh (by assumption) (by assumption) | exact (xu_fresh (by assumption) (by assumption)).symm)).trans (by first | assumption | exact xu_s _ _ _ | exact (xu_n (by first | assumption | exact Ne.symm (by assumption) | exact xu_fresh (by assumption) (by assumption) | exact (xu_fresh (by assumption) (by assumption)).symm)).trans (by first | assumption | exact xu_s _ _ _ | exact (xu_n (by first | assumption | exact Ne.symm (by assumption) | exact xu_fresh (by assumption) (by assumption) | exact (xu_fresh (by assumption) (by assumption)).symm)).trans (by first | assumption | exact xu_s _ _ _)))) rfl ?_
  refine x_V1 (M := mX15_check) (pc := 5) (M' := mX2_isRow) q581 kVX2_isRow dX15_check_5 (c_isRow h sh (d - 1) (by omega) P s hW hsh0 x) (hi) (fun v_ h hq_ => ?_)
  obtain ⟨hv_, rfl⟩ := hq_; cases hv_
  first | with_reducible refine x_ifB_ne (M := mX15_check) (pc := 8) 13 dX15_check_8 (by decide) (fun c8 => ?_) (fun c8 => ?_) | with_reducible refine x_if_neN (M := mX15_check) (pc := 8) 13 dX15_check_8 (by decide) (by omega) (fun c8 => ?_) (fun c8 => ?_) | refine x_if_ne (M := mX15_check) (pc := 8) 13 dX15_check_8 (by decide) (fun c8 => ?_) (fun c8 => ?_)
  refine x_aload_n (M := mX15_check) (pc := 13) dX15_check_13 rfl ?_
  refine x_getN (M := mX15_check) (pc := 14) kcX2 3 rfl q221 dX15_check_14 (by first | assumption | exact xu_s _ _ _ | exact (xu_n (by first | assumption | exact Ne.symm (by assumption) | exact xu_fresh (by assumption) (by assumption) | exact (xu_fresh (by assumption) (by assumption)).symm)).trans (by first | assumption | exact xu_s _ _ _ | exact (xu_n (by first | assumption | exact Ne.symm (by assumption) | exact xu_fresh (by assumption) (by assumption) | exact (xu_fresh (by assumption) (by assumption)).symm)).trans (by first | assumption | exact xu_s _ _ _ | exact (xu_n (by first | assumption | exact Ne.symm (by assumption) | exact xu_fresh (by assumption) (by assumption) | exact (xu_fresh (by assumption) (by assumption)).symm)).trans (by first | assumption | exact xu_s _ _ _)))) rfl ?_
  first | with_reducible refine x_if_gtN (M := mX15_check) (pc := 17) 27 dX15_check_17 (by decide) (by omega) (fun c17 => ?_) (fun c17 => ?_) | refine x_if_gt (M := mX15_check) (pc := 17) 27 dX15_check_17 (by decide) (fun c17 => ?_) (fun c17 => ?_)
  rotate_left
  refine x_aload_n (M := mX15_check) (pc := 20) dX15_check_20 rfl ?_
  refine x_V0 (M := mX15_check) (pc := 21) (M' := mX2_isWorked) q585 kVX2_isWorked dX15_check_21 (c_isWorked h sh (d - 1) P s hW hsh0) (hi) (fun v_ h hq_ => ?_)
  obtain ⟨hv_, rfl⟩ := hq_; cases hv_
  first | with_reducible refine x_ifB_eq (M := mX15_check) (pc := 24) 32 dX15_check_24 (by decide) (fun c24 => ?_) (fun c24 => ?_) | with_reducible refine x_if_eqN (M := mX15_check) (pc := 24) 32 dX15_check_24 (by decide) (by omega) (fun c24 => ?_) (fun c24 => ?_) | refine x_if_eq (M := mX15_check) (pc := 24) 32 dX15_check_24 (by decide) (fun c24 => ?_) (fun c24 => ?_)
  rotate_left
  rotate_left
  rotate_left
  · refine x_bipush (M := mX15_check) (pc := 27) (v := (-2)) dX15_check_27 (by decide) ?_
    refine x_goto (M := mX15_check) (pc := 29) 33 dX15_check_29 (by decide) ?_
    refine x_iret (M := mX15_check) (pc := 33) dX15_check_33 rfl (by first | exact Nat.le_of_ble_eq_true rfl | omega) (by first | exact Nat.le_of_ble_eq_true rfl | omega) ?_
    exact ⟨kkE (by unfold c_printAll; rw [if_neg (by rw [c8]; decide), if_pos (Or.inl c17)]), rfl⟩
  · refine x_iconst (M := mX15_check) (pc := 32) (v := nI 0) dX15_check_32 (by decide) ?_
    refine x_iret (M := mX15_check) (pc := 33) dX15_check_33 rfl (by first | exact Nat.le_of_ble_eq_true rfl | omega) (by first | exact Nat.le_of_ble_eq_true rfl | omega) ?_
    exact ⟨kkO (by unfold c_printAll; rw [if_neg (by rw [c8]; decide), if_neg (by rw [c24]; simp; omega)]), rfl⟩
  · refine x_bipush (M := mX15_check) (pc := 27) (v := (-2)) dX15_check_27 (by decide) ?_
    refine x_goto (M := mX15_check) (pc := 29) 33 dX15_check_29 (by decide) ?_
    refine x_iret (M := mX15_check) (pc := 33) dX15_check_33 rfl (by first | exact Nat.le_of_ble_eq_true rfl | omega) (by first | exact Nat.le_of_ble_eq_true rfl | omega) ?_
    exact ⟨kkE (by unfold c_printAll; rw [if_neg (by rw [c8]; decide), if_pos (Or.inr c24)]), rfl⟩
  · refine x_iconst (M := mX15_check) (pc := 11) (v := (-1)) dX15_check_11 (by decide) ?_
    refine x_iret (M := mX15_check) (pc := 12) dX15_check_12 rfl (by first | exact Nat.le_of_ble_eq_true rfl | omega) (by first | exact Nat.le_of_ble_eq_true rfl | omega) ?_
    exact ⟨kkE (by unfold c_printAll; rw [if_pos c8]), rfl⟩
theorem ck_print (h : xH) (cm sh d : Nat) (hd : 2 ≤ d) (P : Nat → Nat) (s : Row) (hW : WF s) (x y z w t : Int32) (hsh : h sh = some (shE P s)) (hc : h cm = some (.inr (13, [.int x, .int y, .int z, .int w, .int t]))) : Ct g l mX14_check d 0 0 [.ref cm, .ref sh] h (fun o h' => o = .inl (some (.int (kC (c_print s x y z w t)))) ∧ h' = h) := by
  have hb := hW.b
  have hi := xIs.of (g := g) kcX2 hsh
  have hsh0 := hsh
  unfold shE at hsh
  have bad : (zCell s x y && bIn z 0 1 && bIn w (-1) 31 && bIn t 0 1) = false → X g l mX14_check d 0 0 (fun o h' => o = .inl (some (.int (kC (c_print s x y z w t)))) ∧ h' = h) 48 [some (.ref cm), some (.ref sh)] [] h 0 0 := fun q => by
    refine x_iconst (M := mX14_check) (pc := 48) (v := (-1)) dX14_check_48 (by decide) ?_
    refine x_iret (M := mX14_check) (pc := 49) dX14_check_49 rfl (by first | exact Nat.le_of_ble_eq_true rfl | omega) (by first | exact Nat.le_of_ble_eq_true rfl | omega) ?_
    exact ⟨kkE (by unfold c_print; rw [if_pos q]), rfl⟩
  refine Ct.of [some (.ref cm), some (.ref sh)] (by decide +kernel) rfl (Nat.le_of_ble_eq_true rfl) rfl rfl ?_
  refine x_aload_n (M := mX14_check) (pc := 0) dX14_check_0 rfl ?_
  refine x_aload_n (M := mX14_check) (pc := 1) dX14_check_1 rfl ?_
  refine x_get (M := mX14_check) (pc := 2) kcX14 0 rfl q1413 dX14_check_2 (by first | assumption | exact xu_s _ _ _ | exact (xu_n (by first | assumption | exact Ne.symm (by assumption) | exact xu_fresh (by assumption) (by assumption) | exact (xu_fresh (by assumption) (by assumption)).symm)).trans (by first | assumption | exact xu_s _ _ _ | exact (xu_n (by first | assumption | exact Ne.symm (by assumption) | exact xu_fresh (by assumption) (by assumption) | exact (xu_fresh (by assumption) (by assumption)).symm)).trans (by first | assumption | exact xu_s _ _ _ | exact (xu_n (by first | assumption | exact Ne.symm (by assumption) | exact xu_fresh (by assumption) (by assumption) | exact (xu_fresh (by assumption) (by assumption)).symm)).trans (by first | assumption | exact xu_s _ _ _)))) rfl ?_
  refine x_aload_n (M := mX14_check) (pc := 5) dX14_check_5 rfl ?_
  refine x_get (M := mX14_check) (pc := 6) kcX14 1 rfl q1414 dX14_check_6 (by first | assumption | exact xu_s _ _ _ | exact (xu_n (by first | assumption | exact Ne.symm (by assumption) | exact xu_fresh (by assumption) (by assumption) | exact (xu_fresh (by assumption) (by assumption)).symm)).trans (by first | assumption | exact xu_s _ _ _ | exact (xu_n (by first | assumption | exact Ne.symm (by assumption) | exact xu_fresh (by assumption) (by assumption) | exact (xu_fresh (by assumption) (by assumption)).symm)).trans (by first | assumption | exact xu_s _ _ _ | exact (xu_n (by first | assumption | exact Ne.symm (by assumption) | exact xu_fresh (by assumption) (by assumption) | exact (xu_fresh (by assumption) (by assumption)).symm)).trans (by first | assumption | exact xu_s _ _ _)))) rfl ?_
  refine x_V2 (M := mX14_check) (pc := 9) (M' := mX2_isCell) q567 kVX2_isCell dX14_check_9 (c_isCell h sh (d - 1) (by omega) P s hW x y hsh0) (hi) (fun v_ h hq_ => ?_)
  obtain ⟨hv_, rfl⟩ := hq_; cases hv_
  first | with_reducible refine x_ifB_eq (M := mX14_check) (pc := 12) 48 dX14_check_12 (by decide) (fun c12 => ?_) (fun c12 => ?_) | with_reducible refine x_if_eqN (M := mX14_check) (pc := 12) 48 dX14_check_12 (by decide) (by omega) (fun c12 => ?_) (fun c12 => ?_) | refine x_if_eq (M := mX14_check) (pc := 12) 48 dX14_check_12 (by decide) (fun c12 => ?_) (fun c12 => ?_)
  exact bad (by rw [c12]; rfl)
  refine x_aload_n (M := mX14_check) (pc := 15) dX14_check_15 rfl ?_
  refine x_get (M := mX14_check) (pc := 16) kcX14 2 rfl q1415 dX14_check_16 (by first | assumption | exact xu_s _ _ _ | exact (xu_n (by first | assumption | exact Ne.symm (by assumption) | exact xu_fresh (by assumption) (by assumption) | exact (xu_fresh (by assumption) (by assumption)).symm)).trans (by first | assumption | exact xu_s _ _ _ | exact (xu_n (by first | assumption | exact Ne.symm (by assumption) | exact xu_fresh (by assumption) (by assumption) | exact (xu_fresh (by assumption) (by assumption)).symm)).trans (by first | assumption | exact xu_s _ _ _ | exact (xu_n (by first | assumption | exact Ne.symm (by assumption) | exact xu_fresh (by assumption) (by assumption) | exact (xu_fresh (by assumption) (by assumption)).symm)).trans (by first | assumption | exact xu_s _ _ _)))) rfl ?_
  refine x_SN1 (M := mX14_check) (pc := 19) (M' := mX0_isBit) q572 kSX0_isBit dX14_check_19 (c_isBit h z (d - 1) (by omega)) (fun v_ h hq_ => ?_)
  obtain ⟨hv_, rfl⟩ := hq_; cases hv_
  first | with_reducible refine x_ifB_eq (M := mX14_check) (pc := 22) 48 dX14_check_22 (by decide) (fun c22 => ?_) (fun c22 => ?_) | with_reducible refine x_if_eqN (M := mX14_check) (pc := 22) 48 dX14_check_22 (by decide) (by omega) (fun c22 => ?_) (fun c22 => ?_) | refine x_if_eq (M := mX14_check) (pc := 22) 48 dX14_check_22 (by decide) (fun c22 => ?_) (fun c22 => ?_)
  exact bad (by rw [c22, Bool.and_false]; rfl)
  refine x_aload_n (M := mX14_check) (pc := 25) dX14_check_25 rfl ?_
  refine x_get (M := mX14_check) (pc := 26) kcX14 3 rfl q1416 dX14_check_26 (by first | assumption | exact xu_s _ _ _ | exact (xu_n (by first | assumption | exact Ne.symm (by assumption) | exact xu_fresh (by assumption) (by assumption) | exact (xu_fresh (by assumption) (by assumption)).symm)).trans (by first | assumption | exact xu_s _ _ _ | exact (xu_n (by first | assumption | exact Ne.symm (by assumption) | exact xu_fresh (by assumption) (by assumption) | exact (xu_fresh (by assumption) (by assumption)).symm)).trans (by first | assumption | exact xu_s _ _ _ | exact (xu_n (by first | assumption | exact Ne.symm (by assumption) | exact xu_fresh (by assumption) (by assumption) | exact (xu_fresh (by assumption) (by assumption)).symm)).trans (by first | assumption | exact xu_s _ _ _)))) rfl ?_
  refine x_iconst (M := mX14_check) (pc := 29) (v := (-1)) dX14_check_29 (by decide) ?_
  refine x_bipush (M := mX14_check) (pc := 30) (v := nI 31) dX14_check_30 (by decide) ?_
  refine x_SN3 (M := mX14_check) (pc := 32) (M' := mX0_isIn) q573 kSX0_isIn dX14_check_32 (c_isIn h w (-1) 31 (d - 1)) (fun v_ h hq_ => ?_)
  obtain ⟨hv_, rfl⟩ := hq_; cases hv_
  first | with_reducible refine x_ifB_eq (M := mX14_check) (pc := 35) 48 dX14_check_35 (by decide) (fun c35 => ?_) (fun c35 => ?_) | with_reducible refine x_if_eqN (M := mX14_check) (pc := 35) 48 dX14_check_35 (by decide) (by omega) (fun c35 => ?_) (fun c35 => ?_) | refine x_if_eq (M := mX14_check) (pc := 35) 48 dX14_check_35 (by decide) (fun c35 => ?_) (fun c35 => ?_)
  exact bad (by rw [show bIn w (-1) 31 = false from c35, Bool.and_false]; rfl)
  refine x_aload_n (M := mX14_check) (pc := 38) dX14_check_38 rfl ?_
  refine x_get (M := mX14_check) (pc := 39) kcX14 4 rfl q1417 dX14_check_39 (by first | assumption | exact xu_s _ _ _ | exact (xu_n (by first | assumption | exact Ne.symm (by assumption) | exact xu_fresh (by assumption) (by assumption) | exact (xu_fresh (by assumption) (by assumption)).symm)).trans (by first | assumption | exact xu_s _ _ _ | exact (xu_n (by first | assumption | exact Ne.symm (by assumption) | exact xu_fresh (by assumption) (by assumption) | exact (xu_fresh (by assumption) (by assumption)).symm)).trans (by first | assumption | exact xu_s _ _ _ | exact (xu_n (by first | assumption | exact Ne.symm (by assumption) | exact xu_fresh (by assumption) (by assumption) | exact (xu_fresh (by assumption) (by assumption)).symm)).trans (by first | assumption | exact xu_s _ _ _)))) rfl ?_
  refine x_SN1 (M := mX14_check) (pc := 42) (M' := mX0_isBit) q572 kSX0_isBit dX14_check_42 (c_isBit h t (d - 1) (by omega)) (fun v_ h hq_ => ?_)
  obtain ⟨hv_, rfl⟩ := hq_; cases hv_
  first | with_reducible refine x_ifB_ne (M := mX14_check) (pc := 45) 50 dX14_check_45 (by decide) (fun c45 => ?_) (fun c45 => ?_) | with_reducible refine x_if_neN (M := mX14_check) (pc := 45) 50 dX14_check_45 (by decide) (by omega) (fun c45 => ?_) (fun c45 => ?_) | refine x_if_ne (M := mX14_check) (pc := 45) 50 dX14_check_45 (by decide) (fun c45 => ?_) (fun c45 => ?_)
  refine x_aload_n (M := mX14_check) (pc := 50) dX14_check_50 rfl ?_
  refine x_getN (M := mX14_check) (pc := 51) kcX2 3 rfl q222 dX14_check_51 (by first | assumption | exact xu_s _ _ _ | exact (xu_n (by first | assumption | exact Ne.symm (by assumption) | exact xu_fresh (by assumption) (by assumption) | exact (xu_fresh (by assumption) (by assumption)).symm)).trans (by first | assumption | exact xu_s _ _ _ | exact (xu_n (by first | assumption | exact Ne.symm (by assumption) | exact xu_fresh (by assumption) (by assumption) | exact (xu_fresh (by assumption) (by assumption)).symm)).trans (by first | assumption | exact xu_s _ _ _ | exact (xu_n (by first | assumption | exact Ne.symm (by assumption) | exact xu_fresh (by assumption) (by assumption) | exact (xu_fresh (by assumption) (by assumption)).symm)).trans (by first | assumption | exact xu_s _ _ _)))) rfl ?_
  first | with_reducible refine x_if_gtN (M := mX14_check) (pc := 54) 64 dX14_check_54 (by decide) (by omega) (fun c54 => ?_) (fun c54 => ?_) | refine x_if_gt (M := mX14_check) (pc := 54) 64 dX14_check_54 (by decide) (fun c54 => ?_) (fun c54 => ?_)
  rotate_left
  refine x_aload_n (M := mX14_check) (pc := 57) dX14_check_57 rfl ?_
  refine x_V0 (M := mX14_check) (pc := 58) (M' := mX2_isWorked) q574 kVX2_isWorked dX14_check_58 (c_isWorked h sh (d - 1) P s hW hsh0) (hi) (fun v_ h hq_ => ?_)
  obtain ⟨hv_, rfl⟩ := hq_; cases hv_
  first | with_reducible refine x_ifB_eq (M := mX14_check) (pc := 61) 69 dX14_check_61 (by decide) (fun c61 => ?_) (fun c61 => ?_) | with_reducible refine x_if_eqN (M := mX14_check) (pc := 61) 69 dX14_check_61 (by decide) (by omega) (fun c61 => ?_) (fun c61 => ?_) | refine x_if_eq (M := mX14_check) (pc := 61) 69 dX14_check_61 (by decide) (fun c61 => ?_) (fun c61 => ?_)
  rotate_left
  rotate_left
  exact bad (by rw [c45, Bool.and_false])
  all_goals have q : (zCell s x y && bIn z 0 1 && bIn w (-1) 31 && bIn t 0 1) = true := by rw [c12, c22, show bIn w (-1) 31 = true from c35, c45]; rfl
  · refine x_bipush (M := mX14_check) (pc := 64) (v := (-2)) dX14_check_64 (by decide) ?_
    refine x_goto (M := mX14_check) (pc := 66) 70 dX14_check_66 (by decide) ?_
    refine x_iret (M := mX14_check) (pc := 70) dX14_check_70 rfl (by first | exact Nat.le_of_ble_eq_true rfl | omega) (by first | exact Nat.le_of_ble_eq_true rfl | omega) ?_
    exact ⟨kkE (by unfold c_print; rw [if_neg (by rw [q]; decide), if_pos (Or.inl c54)]), rfl⟩
  · refine x_iconst (M := mX14_check) (pc := 69) (v := nI 0) dX14_check_69 (by decide) ?_
    refine x_iret (M := mX14_check) (pc := 70) dX14_check_70 rfl (by first | exact Nat.le_of_ble_eq_true rfl | omega) (by first | exact Nat.le_of_ble_eq_true rfl | omega) ?_
    exact ⟨kkO (by unfold c_print; rw [if_neg (by rw [q]; decide), if_neg (by rw [c61]; simp; omega)]), rfl⟩
  · refine x_bipush (M := mX14_check) (pc := 64) (v := (-2)) dX14_check_64 (by decide) ?_
    refine x_goto (M := mX14_check) (pc := 66) 70 dX14_check_66 (by decide) ?_
    refine x_iret (M := mX14_check) (pc := 70) dX14_check_70 rfl (by first | exact Nat.le_of_ble_eq_true rfl | omega) (by first | exact Nat.le_of_ble_eq_true rfl | omega) ?_
    exact ⟨kkE (by unfold c_print; rw [if_neg (by rw [q]; decide), if_pos (Or.inr c61)]), rfl⟩
theorem ck_cut (h : xH) (cm sh d : Nat) (hd : 2 ≤ d) (P : Nat → Nat) (s : Row) (hW : WF s) (x : Int32) (hsh : h sh = some (shE P s)) (hc : h cm = some (.inr (15, [.int x]))) : Ct g l mX16_check d 0 0 [.ref cm, .ref sh] h (fun o h' => o = .inl (some (.int (kC (c_cut s x)))) ∧ h' = h) := by
  have hi := xIs.of (g := g) kcX2 hsh
  have hsh0 := hsh
  have h8 := hW.2.2.1.2
  unfold shE at hsh
  refine Ct.of [some (.ref cm), some (.ref sh)] (by decide +kernel) rfl (Nat.le_of_ble_eq_true rfl) rfl rfl ?_
  refine x_aload_n (M := mX16_check) (pc := 0) dX16_check_0 rfl ?_
  refine x_get (M := mX16_check) (pc := 1) kcX16 0 rfl q1453 dX16_check_1 (by first | assumption | exact xu_s _ _ _ | exact (xu_n (by first | assumption | exact Ne.symm (by assumption) | exact xu_fresh (by assumption) (by assumption) | exact (xu_fresh (by assumption) (by assumption)).symm)).trans (by first | assumption | exact xu_s _ _ _ | exact (xu_n (by first | assumption | exact Ne.symm (by assumption) | exact xu_fresh (by assumption) (by assumption) | exact (xu_fresh (by assumption) (by assumption)).symm)).trans (by first | assumption | exact xu_s _ _ _ | exact (xu_n (by first | assumption | exact Ne.symm (by assumption) | exact xu_fresh (by assumption) (by assumption) | exact (xu_fresh (by assumption) (by assumption)).symm)).trans (by first | assumption | exact xu_s _ _ _)))) rfl ?_
  refine x_iconst (M := mX16_check) (pc := 4) (v := nI 0) dX16_check_4 (by decide) ?_
  refine x_iconst (M := mX16_check) (pc := 5) (v := nI 3) dX16_check_5 (by decide) ?_
  refine x_SN3 (M := mX16_check) (pc := 6) (M' := mX0_isIn) q429 kSX0_isIn dX16_check_6 (c_isIn h x 0 3 (d - 1)) (fun v_ h hq_ => ?_)
  obtain ⟨hv_, rfl⟩ := hq_; cases hv_
  first | with_reducible refine x_ifB_ne (M := mX16_check) (pc := 9) 14 dX16_check_9 (by decide) (fun c9 => ?_) (fun c9 => ?_) | with_reducible refine x_if_neN (M := mX16_check) (pc := 9) 14 dX16_check_9 (by decide) (by omega) (fun c9 => ?_) (fun c9 => ?_) | refine x_if_ne (M := mX16_check) (pc := 9) 14 dX16_check_9 (by decide) (fun c9 => ?_) (fun c9 => ?_)
  rotate_left
  rotate_left
  · obtain ⟨n, rfl, -, hn4⟩ := bIn_n (a := 0) (b := 3) (by omega) (by omega) c9
    refine x_aload_n (M := mX16_check) (pc := 14) dX16_check_14 rfl ?_
    refine x_V0 (M := mX16_check) (pc := 15) (M' := mX2_isBooklet) q430 kVX2_isBooklet dX16_check_15 (c_isBooklet h sh (d - 1) (by omega) P s hW hsh0) (hi) (fun v_ h hq_ => ?_)
    obtain ⟨hv_, rfl⟩ := hq_; cases hv_
    first | with_reducible refine x_ifB_eq (M := mX16_check) (pc := 18) 35 dX16_check_18 (by decide) (fun c18 => ?_) (fun c18 => ?_) | with_reducible refine x_if_eqN (M := mX16_check) (pc := 18) 35 dX16_check_18 (by decide) (by omega) (fun c18 => ?_) (fun c18 => ?_) | refine x_if_eq (M := mX16_check) (pc := 18) 35 dX16_check_18 (by decide) (fun c18 => ?_) (fun c18 => ?_)
    rotate_left
    refine x_aload_n (M := mX16_check) (pc := 21) dX16_check_21 rfl ?_
    refine x_getN (M := mX16_check) (pc := 22) kcX2 7 rfl q238 dX16_check_22 (by first | assumption | exact xu_s _ _ _ | exact (xu_n (by first | assumption | exact Ne.symm (by assumption) | exact xu_fresh (by assumption) (by assumption) | exact (xu_fresh (by assumption) (by assumption)).symm)).trans (by first | assumption | exact xu_s _ _ _ | exact (xu_n (by first | assumption | exact Ne.symm (by assumption) | exact xu_fresh (by assumption) (by assumption) | exact (xu_fresh (by assumption) (by assumption)).symm)).trans (by first | assumption | exact xu_s _ _ _ | exact (xu_n (by first | assumption | exact Ne.symm (by assumption) | exact xu_fresh (by assumption) (by assumption) | exact (xu_fresh (by assumption) (by assumption)).symm)).trans (by first | assumption | exact xu_s _ _ _)))) rfl ?_
    refine x_aload_n (M := mX16_check) (pc := 25) dX16_check_25 rfl ?_
    refine x_get (M := mX16_check) (pc := 26) kcX16 0 rfl q1453 dX16_check_26 (by first | assumption | exact xu_s _ _ _ | exact (xu_n (by first | assumption | exact Ne.symm (by assumption) | exact xu_fresh (by assumption) (by assumption) | exact (xu_fresh (by assumption) (by assumption)).symm)).trans (by first | assumption | exact xu_s _ _ _ | exact (xu_n (by first | assumption | exact Ne.symm (by assumption) | exact xu_fresh (by assumption) (by assumption) | exact (xu_fresh (by assumption) (by assumption)).symm)).trans (by first | assumption | exact xu_s _ _ _ | exact (xu_n (by first | assumption | exact Ne.symm (by assumption) | exact xu_fresh (by assumption) (by assumption) | exact (xu_fresh (by assumption) (by assumption)).symm)).trans (by first | assumption | exact xu_s _ _ _)))) rfl ?_
    refine x_SN2 (M := mX16_check) (pc := 29) (M' := mX0_has) q442 kSX0_has dX16_check_29 (c_has h (zN s 8) n (d - 1) (by omega) (by omega)) (fun v_ h hq_ => ?_)
    obtain ⟨hv_, rfl⟩ := hq_; cases hv_
    first | with_reducible refine x_ifB_eq (M := mX16_check) (pc := 32) 40 dX16_check_32 (by decide) (fun c32 => ?_) (fun c32 => ?_) | with_reducible refine x_if_eqN (M := mX16_check) (pc := 32) 40 dX16_check_32 (by decide) (by omega) (fun c32 => ?_) (fun c32 => ?_) | refine x_if_eq (M := mX16_check) (pc := 32) 40 dX16_check_32 (by decide) (fun c32 => ?_) (fun c32 => ?_)
    rotate_left
    rotate_left
    · refine x_bipush (M := mX16_check) (pc := 35) (v := (-2)) dX16_check_35 (by decide) ?_
      refine x_goto (M := mX16_check) (pc := 37) 41 dX16_check_37 (by decide) ?_
      refine x_iret (M := mX16_check) (pc := 41) dX16_check_41 rfl (by first | exact Nat.le_of_ble_eq_true rfl | omega) (by first | exact Nat.le_of_ble_eq_true rfl | omega) ?_
      exact ⟨kkE (by unfold c_cut; rw [if_neg (by rw [c9]; decide), if_pos (Or.inl c18)]), rfl⟩
    · refine x_iconst (M := mX16_check) (pc := 40) (v := nI 0) dX16_check_40 (by decide) ?_
      refine x_iret (M := mX16_check) (pc := 41) dX16_check_41 rfl (by first | exact Nat.le_of_ble_eq_true rfl | omega) (by first | exact Nat.le_of_ble_eq_true rfl | omega) ?_
      exact ⟨kkO (by unfold c_cut; rw [if_neg (by rw [c9]; decide), if_neg (by rw [c18, clamp1 (by omega), c32]; decide)]), rfl⟩
    · refine x_bipush (M := mX16_check) (pc := 35) (v := (-2)) dX16_check_35 (by decide) ?_
      refine x_goto (M := mX16_check) (pc := 37) 41 dX16_check_37 (by decide) ?_
      refine x_iret (M := mX16_check) (pc := 41) dX16_check_41 rfl (by first | exact Nat.le_of_ble_eq_true rfl | omega) (by first | exact Nat.le_of_ble_eq_true rfl | omega) ?_
      exact ⟨kkE (by unfold c_cut; rw [if_neg (by rw [c9]; decide), if_pos (Or.inr (by rw [clamp1 (by omega)]; exact c32))]), rfl⟩
  · refine x_iconst (M := mX16_check) (pc := 12) (v := (-1)) dX16_check_12 (by decide) ?_
    refine x_iret (M := mX16_check) (pc := 13) dX16_check_13 rfl (by first | exact Nat.le_of_ble_eq_true rfl | omega) (by first | exact Nat.le_of_ble_eq_true rfl | omega) ?_
    exact ⟨kkE (by unfold c_cut; rw [if_pos c9]), rfl⟩
theorem ck_staple (h : xH) (cm sh d : Nat) (hd : 2 ≤ d) (P : Nat → Nat) (s : Row) (hW : WF s) (x : Int32) (hsh : h sh = some (shE P s)) (hc : h cm = some (.inr (16, [.int x]))) : Ct g l mX17_check d 0 0 [.ref cm, .ref sh] h (fun o h' => o = .inl (some (.int (kC (c_staple s x)))) ∧ h' = h) := by
  have hi := xIs.of (g := g) kcX2 hsh
  have hsh0 := hsh
  have h9 := hW.2.2.2.1.2
  have ho := p_ones_le 16 (zN s 9)
  unfold shE at hsh
  refine Ct.of [some (.ref cm), some (.ref sh)] (by decide +kernel) rfl (Nat.le_of_ble_eq_true rfl) rfl rfl ?_
  refine x_aload_n (M := mX17_check) (pc := 0) dX17_check_0 rfl ?_
  refine x_get (M := mX17_check) (pc := 1) kcX17 0 rfl q1467 dX17_check_1 (by first | assumption | exact xu_s _ _ _ | exact (xu_n (by first | assumption | exact Ne.symm (by assumption) | exact xu_fresh (by assumption) (by assumption) | exact (xu_fresh (by assumption) (by assumption)).symm)).trans (by first | assumption | exact xu_s _ _ _ | exact (xu_n (by first | assumption | exact Ne.symm (by assumption) | exact xu_fresh (by assumption) (by assumption) | exact (xu_fresh (by assumption) (by assumption)).symm)).trans (by first | assumption | exact xu_s _ _ _ | exact (xu_n (by first | assumption | exact Ne.symm (by assumption) | exact xu_fresh (by assumption) (by assumption) | exact (xu_fresh (by assumption) (by assumption)).symm)).trans (by first | assumption | exact xu_s _ _ _)))) rfl ?_
  refine x_iconst (M := mX17_check) (pc := 4) (v := nI 0) dX17_check_4 (by decide) ?_
  refine x_bipush (M := mX17_check) (pc := 5) (v := nI 9) dX17_check_5 (by decide) ?_
  refine x_SN3 (M := mX17_check) (pc := 7) (M' := mX0_isIn) q617 kSX0_isIn dX17_check_7 (c_isIn h x 0 9 (d - 1)) (fun v_ h hq_ => ?_)
  obtain ⟨hv_, rfl⟩ := hq_; cases hv_
  first | with_reducible refine x_ifB_ne (M := mX17_check) (pc := 10) 15 dX17_check_10 (by decide) (fun c10 => ?_) (fun c10 => ?_) | with_reducible refine x_if_neN (M := mX17_check) (pc := 10) 15 dX17_check_10 (by decide) (by omega) (fun c10 => ?_) (fun c10 => ?_) | refine x_if_ne (M := mX17_check) (pc := 10) 15 dX17_check_10 (by decide) (fun c10 => ?_) (fun c10 => ?_)
  rotate_left
  rotate_left
  · obtain ⟨n, rfl, -, hn4⟩ := bIn_n (a := 0) (b := 9) (by omega) (by omega) c10
    refine x_aload_n (M := mX17_check) (pc := 15) dX17_check_15 rfl ?_
    refine x_V0 (M := mX17_check) (pc := 16) (M' := mX2_isBooklet) q618 kVX2_isBooklet dX17_check_16 (c_isBooklet h sh (d - 1) (by omega) P s hW hsh0) (hi) (fun v_ h hq_ => ?_)
    obtain ⟨hv_, rfl⟩ := hq_; cases hv_
    first | with_reducible refine x_ifB_eq (M := mX17_check) (pc := 19) 36 dX17_check_19 (by decide) (fun c19 => ?_) (fun c19 => ?_) | with_reducible refine x_if_eqN (M := mX17_check) (pc := 19) 36 dX17_check_19 (by decide) (by omega) (fun c19 => ?_) (fun c19 => ?_) | refine x_if_eq (M := mX17_check) (pc := 19) 36 dX17_check_19 (by decide) (fun c19 => ?_) (fun c19 => ?_)
    rotate_left
    refine x_aload_n (M := mX17_check) (pc := 22) dX17_check_22 rfl ?_
    refine x_getN (M := mX17_check) (pc := 23) kcX2 8 rfl q245 dX17_check_23 (by first | assumption | exact xu_s _ _ _ | exact (xu_n (by first | assumption | exact Ne.symm (by assumption) | exact xu_fresh (by assumption) (by assumption) | exact (xu_fresh (by assumption) (by assumption)).symm)).trans (by first | assumption | exact xu_s _ _ _ | exact (xu_n (by first | assumption | exact Ne.symm (by assumption) | exact xu_fresh (by assumption) (by assumption) | exact (xu_fresh (by assumption) (by assumption)).symm)).trans (by first | assumption | exact xu_s _ _ _ | exact (xu_n (by first | assumption | exact Ne.symm (by assumption) | exact xu_fresh (by assumption) (by assumption) | exact (xu_fresh (by assumption) (by assumption)).symm)).trans (by first | assumption | exact xu_s _ _ _)))) rfl ?_
    refine x_aload_n (M := mX17_check) (pc := 26) dX17_check_26 rfl ?_
    refine x_get (M := mX17_check) (pc := 27) kcX17 0 rfl q1467 dX17_check_27 (by first | assumption | exact xu_s _ _ _ | exact (xu_n (by first | assumption | exact Ne.symm (by assumption) | exact xu_fresh (by assumption) (by assumption) | exact (xu_fresh (by assumption) (by assumption)).symm)).trans (by first | assumption | exact xu_s _ _ _ | exact (xu_n (by first | assumption | exact Ne.symm (by assumption) | exact xu_fresh (by assumption) (by assumption) | exact (xu_fresh (by assumption) (by assumption)).symm)).trans (by first | assumption | exact xu_s _ _ _ | exact (xu_n (by first | assumption | exact Ne.symm (by assumption) | exact xu_fresh (by assumption) (by assumption) | exact (xu_fresh (by assumption) (by assumption)).symm)).trans (by first | assumption | exact xu_s _ _ _)))) rfl ?_
    refine x_SN2 (M := mX17_check) (pc := 30) (M' := mX0_has) q619 kSX0_has dX17_check_30 (c_has h (zN s 9) n (d - 1) (by omega) (by omega)) (fun v_ h hq_ => ?_)
    obtain ⟨hv_, rfl⟩ := hq_; cases hv_
    first | with_reducible refine x_ifB_eq (M := mX17_check) (pc := 33) 39 dX17_check_33 (by decide) (fun c33 => ?_) (fun c33 => ?_) | with_reducible refine x_if_eqN (M := mX17_check) (pc := 33) 39 dX17_check_33 (by decide) (by omega) (fun c33 => ?_) (fun c33 => ?_) | refine x_if_eq (M := mX17_check) (pc := 33) 39 dX17_check_33 (by decide) (fun c33 => ?_) (fun c33 => ?_)
    refine x_aload_n (M := mX17_check) (pc := 39) dX17_check_39 rfl ?_
    refine x_getN (M := mX17_check) (pc := 40) kcX2 8 rfl q245 dX17_check_40 (by first | assumption | exact xu_s _ _ _ | exact (xu_n (by first | assumption | exact Ne.symm (by assumption) | exact xu_fresh (by assumption) (by assumption) | exact (xu_fresh (by assumption) (by assumption)).symm)).trans (by first | assumption | exact xu_s _ _ _ | exact (xu_n (by first | assumption | exact Ne.symm (by assumption) | exact xu_fresh (by assumption) (by assumption) | exact (xu_fresh (by assumption) (by assumption)).symm)).trans (by first | assumption | exact xu_s _ _ _ | exact (xu_n (by first | assumption | exact Ne.symm (by assumption) | exact xu_fresh (by assumption) (by assumption) | exact (xu_fresh (by assumption) (by assumption)).symm)).trans (by first | assumption | exact xu_s _ _ _)))) rfl ?_
    refine x_S1 (M := mX17_check) (pc := 43) (M' := mJ10_bitCount) q620 kSJ10_bitCount dX17_check_43 (j_bitCount h (zN s 9) (d - 1) h9) (fun v_ h hq_ => ?_)
    obtain ⟨hv_, rfl⟩ := hq_; cases hv_
    refine x_iconst (M := mX17_check) (pc := 46) (v := nI 3) dX17_check_46 (by decide) ?_
    first | with_reducible refine x_icmp_neN (M := mX17_check) (pc := 47) 55 dX17_check_47 (by decide) (by omega) (by omega) (fun c47 => ?_) (fun c47 => ?_) | refine x_icmp_ne (M := mX17_check) (pc := 47) 55 dX17_check_47 (by decide) (fun c47 => ?_) (fun c47 => ?_)
    rotate_left
    rotate_left
    rotate_left
    · refine x_bipush (M := mX17_check) (pc := 36) (v := (-2)) dX17_check_36 (by decide) ?_
      refine x_iret (M := mX17_check) (pc := 38) dX17_check_38 rfl (by first | exact Nat.le_of_ble_eq_true rfl | omega) (by first | exact Nat.le_of_ble_eq_true rfl | omega) ?_
      exact ⟨kkE (by unfold c_staple; rw [if_neg (by rw [c10]; decide), if_pos (Or.inl c19)]), rfl⟩
    · refine x_iconst (M := mX17_check) (pc := 55) (v := nI 0) dX17_check_55 (by decide) ?_
      refine x_iret (M := mX17_check) (pc := 56) dX17_check_56 rfl (by first | exact Nat.le_of_ble_eq_true rfl | omega) (by first | exact Nat.le_of_ble_eq_true rfl | omega) ?_
      exact ⟨kkO (by unfold c_staple; rw [if_neg (by rw [c10]; decide), if_neg (by rw [c19, clamp1 (by omega), c33]; decide), if_neg c47]), rfl⟩
    · refine x_bipush (M := mX17_check) (pc := 50) (v := (-3)) dX17_check_50 (by decide) ?_
      refine x_goto (M := mX17_check) (pc := 52) 56 dX17_check_52 (by decide) ?_
      refine x_iret (M := mX17_check) (pc := 56) dX17_check_56 rfl (by first | exact Nat.le_of_ble_eq_true rfl | omega) (by first | exact Nat.le_of_ble_eq_true rfl | omega) ?_
      exact ⟨kkE (by unfold c_staple; rw [if_neg (by rw [c10]; decide), if_neg (by rw [c19, clamp1 (by omega), c33]; decide), if_pos c47]), rfl⟩
    · refine x_bipush (M := mX17_check) (pc := 36) (v := (-2)) dX17_check_36 (by decide) ?_
      refine x_iret (M := mX17_check) (pc := 38) dX17_check_38 rfl (by first | exact Nat.le_of_ble_eq_true rfl | omega) (by first | exact Nat.le_of_ble_eq_true rfl | omega) ?_
      exact ⟨kkE (by unfold c_staple; rw [if_neg (by rw [c10]; decide), if_pos (Or.inr (by rw [clamp1 (by omega)]; exact c33))]), rfl⟩
  · refine x_iconst (M := mX17_check) (pc := 13) (v := (-1)) dX17_check_13 (by decide) ?_
    refine x_iret (M := mX17_check) (pc := 14) dX17_check_14 rfl (by first | exact Nat.le_of_ble_eq_true rfl | omega) (by first | exact Nat.le_of_ble_eq_true rfl | omega) ?_
    exact ⟨kkE (by unfold c_staple; rw [if_pos c10]), rfl⟩
theorem ck_unstaple (h : xH) (cm sh d : Nat) (hd : 2 ≤ d) (P : Nat → Nat) (s : Row) (hW : WF s) (x : Int32) (hsh : h sh = some (shE P s)) (hc : h cm = some (.inr (17, [.int x]))) : Ct g l mX18_check d 0 0 [.ref cm, .ref sh] h (fun o h' => o = .inl (some (.int (kC (c_unstaple s x)))) ∧ h' = h) := by
  have h9 := hW.2.2.2.1.2
  unfold shE at hsh
  refine Ct.of [some (.ref cm), some (.ref sh)] (by decide +kernel) rfl (Nat.le_of_ble_eq_true rfl) rfl rfl ?_
  refine x_aload_n (M := mX18_check) (pc := 0) dX18_check_0 rfl ?_
  refine x_get (M := mX18_check) (pc := 1) kcX18 0 rfl q1481 dX18_check_1 (by first | assumption | exact xu_s _ _ _ | exact (xu_n (by first | assumption | exact Ne.symm (by assumption) | exact xu_fresh (by assumption) (by assumption) | exact (xu_fresh (by assumption) (by assumption)).symm)).trans (by first | assumption | exact xu_s _ _ _ | exact (xu_n (by first | assumption | exact Ne.symm (by assumption) | exact xu_fresh (by assumption) (by assumption) | exact (xu_fresh (by assumption) (by assumption)).symm)).trans (by first | assumption | exact xu_s _ _ _ | exact (xu_n (by first | assumption | exact Ne.symm (by assumption) | exact xu_fresh (by assumption) (by assumption) | exact (xu_fresh (by assumption) (by assumption)).symm)).trans (by first | assumption | exact xu_s _ _ _)))) rfl ?_
  refine x_iconst (M := mX18_check) (pc := 4) (v := nI 0) dX18_check_4 (by decide) ?_
  refine x_bipush (M := mX18_check) (pc := 5) (v := nI 9) dX18_check_5 (by decide) ?_
  refine x_SN3 (M := mX18_check) (pc := 7) (M' := mX0_isIn) q639 kSX0_isIn dX18_check_7 (c_isIn h x 0 9 (d - 1)) (fun v_ h hq_ => ?_)
  obtain ⟨hv_, rfl⟩ := hq_; cases hv_
  first | with_reducible refine x_ifB_ne (M := mX18_check) (pc := 10) 17 dX18_check_10 (by decide) (fun c10 => ?_) (fun c10 => ?_) | with_reducible refine x_if_neN (M := mX18_check) (pc := 10) 17 dX18_check_10 (by decide) (by omega) (fun c10 => ?_) (fun c10 => ?_) | refine x_if_ne (M := mX18_check) (pc := 10) 17 dX18_check_10 (by decide) (fun c10 => ?_) (fun c10 => ?_)
  rotate_left
  rotate_left
  · obtain ⟨n, rfl, -, hn4⟩ := bIn_n (a := 0) (b := 9) (by omega) (by omega) c10
    refine x_aload_n (M := mX18_check) (pc := 17) dX18_check_17 rfl ?_
    refine x_getN (M := mX18_check) (pc := 18) kcX2 8 rfl q244 dX18_check_18 (by first | assumption | exact xu_s _ _ _ | exact (xu_n (by first | assumption | exact Ne.symm (by assumption) | exact xu_fresh (by assumption) (by assumption) | exact (xu_fresh (by assumption) (by assumption)).symm)).trans (by first | assumption | exact xu_s _ _ _ | exact (xu_n (by first | assumption | exact Ne.symm (by assumption) | exact xu_fresh (by assumption) (by assumption) | exact (xu_fresh (by assumption) (by assumption)).symm)).trans (by first | assumption | exact xu_s _ _ _ | exact (xu_n (by first | assumption | exact Ne.symm (by assumption) | exact xu_fresh (by assumption) (by assumption) | exact (xu_fresh (by assumption) (by assumption)).symm)).trans (by first | assumption | exact xu_s _ _ _)))) rfl ?_
    refine x_aload_n (M := mX18_check) (pc := 21) dX18_check_21 rfl ?_
    refine x_get (M := mX18_check) (pc := 22) kcX18 0 rfl q1481 dX18_check_22 (by first | assumption | exact xu_s _ _ _ | exact (xu_n (by first | assumption | exact Ne.symm (by assumption) | exact xu_fresh (by assumption) (by assumption) | exact (xu_fresh (by assumption) (by assumption)).symm)).trans (by first | assumption | exact xu_s _ _ _ | exact (xu_n (by first | assumption | exact Ne.symm (by assumption) | exact xu_fresh (by assumption) (by assumption) | exact (xu_fresh (by assumption) (by assumption)).symm)).trans (by first | assumption | exact xu_s _ _ _ | exact (xu_n (by first | assumption | exact Ne.symm (by assumption) | exact xu_fresh (by assumption) (by assumption) | exact (xu_fresh (by assumption) (by assumption)).symm)).trans (by first | assumption | exact xu_s _ _ _)))) rfl ?_
    refine x_SN2 (M := mX18_check) (pc := 25) (M' := mX0_has) q640 kSX0_has dX18_check_25 (c_has h (zN s 9) n (d - 1) (by omega) (by omega)) (fun v_ h hq_ => ?_)
    obtain ⟨hv_, rfl⟩ := hq_; cases hv_
    first | with_reducible refine x_ifB_eq (M := mX18_check) (pc := 28) 35 dX18_check_28 (by decide) (fun c28 => ?_) (fun c28 => ?_) | with_reducible refine x_if_eqN (M := mX18_check) (pc := 28) 35 dX18_check_28 (by decide) (by omega) (fun c28 => ?_) (fun c28 => ?_) | refine x_if_eq (M := mX18_check) (pc := 28) 35 dX18_check_28 (by decide) (fun c28 => ?_) (fun c28 => ?_)
    rotate_left
    rotate_left
    · refine x_bipush (M := mX18_check) (pc := 35) (v := (-2)) dX18_check_35 (by decide) ?_
      refine x_iret (M := mX18_check) (pc := 37) dX18_check_37 rfl (by first | exact Nat.le_of_ble_eq_true rfl | omega) (by first | exact Nat.le_of_ble_eq_true rfl | omega) ?_
      exact ⟨kkE (by unfold c_unstaple; rw [if_neg (by rw [c10]; decide), if_pos (by rw [clamp1 (by omega)]; exact c28)]), rfl⟩
    · refine x_iconst (M := mX18_check) (pc := 31) (v := nI 0) dX18_check_31 (by decide) ?_
      refine x_goto (M := mX18_check) (pc := 32) 37 dX18_check_32 (by decide) ?_
      refine x_iret (M := mX18_check) (pc := 37) dX18_check_37 rfl (by first | exact Nat.le_of_ble_eq_true rfl | omega) (by first | exact Nat.le_of_ble_eq_true rfl | omega) ?_
      exact ⟨kkO (by unfold c_unstaple; rw [if_neg (by rw [c10]; decide), if_neg (by rw [clamp1 (by omega), c28]; decide)]), rfl⟩
  · refine x_iconst (M := mX18_check) (pc := 13) (v := (-1)) dX18_check_13 (by decide) ?_
    refine x_goto (M := mX18_check) (pc := 14) 37 dX18_check_14 (by decide) ?_
    refine x_iret (M := mX18_check) (pc := 37) dX18_check_37 rfl (by first | exact Nat.le_of_ble_eq_true rfl | omega) (by first | exact Nat.le_of_ble_eq_true rfl | omega) ?_
    exact ⟨kkE (by unfold c_unstaple; rw [if_pos c10]), rfl⟩
theorem ck_see (h : xH) (cm sh d : Nat) (hd : 2 ≤ d) (P : Nat → Nat) (s : Row) (xs ys : List Nat) (hW : WF s) (hS : SHP g h sh P s xs ys) (x y z : Int32) (hc : h cm = some (.inr (19, [.int x, .int y, .int z]))) : Ct g l mX20_check d 0 0 [.ref cm, .ref sh] h (fun o h' => o = .inl (some (.int (kC (c_see s x y z)))) ∧ h' = h) := by
  have hb := hW.b
  have n8 := hW.n8
  have hsh := hS.1
  obtain ⟨A1, A2, A3⟩ := hS.2.2.2.2.2.1
  unfold shE at hsh
  have e2 : (2 : Int32) * (s 0 * s 1) - 1 = nI (2 * (zHi s * zWi s) - 1) := by
    rw [hW.1.1, hW.1.2.1, pk_mul, show (2 : Int32) = nI 2 from rfl, pk_mul, show (1 : Int32) = nI 1 from rfl, pk_sub (by omega)]
  have bad : (bIn x 0 (2 * (s 0 * s 1) - 1) && bIn y 0 31 && bIn z 0 1) = false → X g l mX20_check d 0 0 (fun o h' => o = .inl (some (.int (kC (c_see s x y z)))) ∧ h' = h) 42 [some (.ref cm), some (.ref sh)] [] h 0 0 := fun q => by
    refine x_iconst (M := mX20_check) (pc := 42) (v := (-1)) dX20_check_42 (by decide) ?_
    refine x_iret (M := mX20_check) (pc := 43) dX20_check_43 rfl (by first | exact Nat.le_of_ble_eq_true rfl | omega) (by first | exact Nat.le_of_ble_eq_true rfl | omega) ?_
    exact ⟨kkE (by unfold c_see; rw [if_pos q]), rfl⟩
  rw [e2] at bad
  refine Ct.of [some (.ref cm), some (.ref sh)] (by decide +kernel) rfl (Nat.le_of_ble_eq_true rfl) rfl rfl ?_
  refine x_aload_n (M := mX20_check) (pc := 0) dX20_check_0 rfl ?_
  refine x_get (M := mX20_check) (pc := 1) kcX20 0 rfl q1509 dX20_check_1 (by first | assumption | exact xu_s _ _ _ | exact (xu_n (by first | assumption | exact Ne.symm (by assumption) | exact xu_fresh (by assumption) (by assumption) | exact (xu_fresh (by assumption) (by assumption)).symm)).trans (by first | assumption | exact xu_s _ _ _ | exact (xu_n (by first | assumption | exact Ne.symm (by assumption) | exact xu_fresh (by assumption) (by assumption) | exact (xu_fresh (by assumption) (by assumption)).symm)).trans (by first | assumption | exact xu_s _ _ _ | exact (xu_n (by first | assumption | exact Ne.symm (by assumption) | exact xu_fresh (by assumption) (by assumption) | exact (xu_fresh (by assumption) (by assumption)).symm)).trans (by first | assumption | exact xu_s _ _ _)))) rfl ?_
  refine x_iconst (M := mX20_check) (pc := 4) (v := nI 0) dX20_check_4 (by decide) ?_
  refine x_iconst (M := mX20_check) (pc := 5) (v := nI 2) dX20_check_5 (by decide) ?_
  refine x_aload_n (M := mX20_check) (pc := 6) dX20_check_6 rfl ?_
  refine x_V0 (M := mX20_check) (pc := 7) (M' := mX2_cells) q600 kVX2_cells dX20_check_7 (c_cells h sh (d - 1) P s hS.1) (hS.is) (fun v_ h hq_ => ?_)
  obtain ⟨hv_, rfl⟩ := hq_; cases hv_
  first | with_reducible refine x_imulN (M := mX20_check) (pc := 10) dX20_check_10 ?_ | refine x_imul (M := mX20_check) (pc := 10) dX20_check_10 ?_
  refine x_iconst (M := mX20_check) (pc := 11) (v := nI 1) dX20_check_11 (by decide) ?_
  first | with_reducible refine x_isubN (M := mX20_check) (pc := 12) dX20_check_12 (by omega) ?_ | refine x_isub (M := mX20_check) (pc := 12) dX20_check_12 ?_
  refine x_SN3 (M := mX20_check) (pc := 13) (M' := mX0_isIn) q601 kSX0_isIn dX20_check_13 (c_isIn h x 0 (nI (2 * (zHi s * zWi s) - 1)) (d - 1)) (fun v_ h hq_ => ?_)
  obtain ⟨hv_, rfl⟩ := hq_; cases hv_
  first | with_reducible refine x_ifB_eq (M := mX20_check) (pc := 16) 42 dX20_check_16 (by decide) (fun c16 => ?_) (fun c16 => ?_) | with_reducible refine x_if_eqN (M := mX20_check) (pc := 16) 42 dX20_check_16 (by decide) (by omega) (fun c16 => ?_) (fun c16 => ?_) | refine x_if_eq (M := mX20_check) (pc := 16) 42 dX20_check_16 (by decide) (fun c16 => ?_) (fun c16 => ?_)
  exact bad (by rw [show bIn x 0 _ = false from c16]; rfl)
  refine x_aload_n (M := mX20_check) (pc := 19) dX20_check_19 rfl ?_
  refine x_get (M := mX20_check) (pc := 20) kcX20 1 rfl q1510 dX20_check_20 (by first | assumption | exact xu_s _ _ _ | exact (xu_n (by first | assumption | exact Ne.symm (by assumption) | exact xu_fresh (by assumption) (by assumption) | exact (xu_fresh (by assumption) (by assumption)).symm)).trans (by first | assumption | exact xu_s _ _ _ | exact (xu_n (by first | assumption | exact Ne.symm (by assumption) | exact xu_fresh (by assumption) (by assumption) | exact (xu_fresh (by assumption) (by assumption)).symm)).trans (by first | assumption | exact xu_s _ _ _ | exact (xu_n (by first | assumption | exact Ne.symm (by assumption) | exact xu_fresh (by assumption) (by assumption) | exact (xu_fresh (by assumption) (by assumption)).symm)).trans (by first | assumption | exact xu_s _ _ _)))) rfl ?_
  refine x_iconst (M := mX20_check) (pc := 23) (v := nI 0) dX20_check_23 (by decide) ?_
  refine x_bipush (M := mX20_check) (pc := 24) (v := nI 31) dX20_check_24 (by decide) ?_
  refine x_SN3 (M := mX20_check) (pc := 26) (M' := mX0_isIn) q601 kSX0_isIn dX20_check_26 (c_isIn h y 0 31 (d - 1)) (fun v_ h hq_ => ?_)
  obtain ⟨hv_, rfl⟩ := hq_; cases hv_
  first | with_reducible refine x_ifB_eq (M := mX20_check) (pc := 29) 42 dX20_check_29 (by decide) (fun c29 => ?_) (fun c29 => ?_) | with_reducible refine x_if_eqN (M := mX20_check) (pc := 29) 42 dX20_check_29 (by decide) (by omega) (fun c29 => ?_) (fun c29 => ?_) | refine x_if_eq (M := mX20_check) (pc := 29) 42 dX20_check_29 (by decide) (fun c29 => ?_) (fun c29 => ?_)
  exact bad (by rw [show bIn y 0 31 = false from c29, Bool.and_false]; rfl)
  refine x_aload_n (M := mX20_check) (pc := 32) dX20_check_32 rfl ?_
  refine x_get (M := mX20_check) (pc := 33) kcX20 2 rfl q1511 dX20_check_33 (by first | assumption | exact xu_s _ _ _ | exact (xu_n (by first | assumption | exact Ne.symm (by assumption) | exact xu_fresh (by assumption) (by assumption) | exact (xu_fresh (by assumption) (by assumption)).symm)).trans (by first | assumption | exact xu_s _ _ _ | exact (xu_n (by first | assumption | exact Ne.symm (by assumption) | exact xu_fresh (by assumption) (by assumption) | exact (xu_fresh (by assumption) (by assumption)).symm)).trans (by first | assumption | exact xu_s _ _ _ | exact (xu_n (by first | assumption | exact Ne.symm (by assumption) | exact xu_fresh (by assumption) (by assumption) | exact (xu_fresh (by assumption) (by assumption)).symm)).trans (by first | assumption | exact xu_s _ _ _)))) rfl ?_
  refine x_SN1 (M := mX20_check) (pc := 36) (M' := mX0_isBit) q602 kSX0_isBit dX20_check_36 (c_isBit h z (d - 1) (by omega)) (fun v_ h hq_ => ?_)
  obtain ⟨hv_, rfl⟩ := hq_; cases hv_
  first | with_reducible refine x_ifB_ne (M := mX20_check) (pc := 39) 44 dX20_check_39 (by decide) (fun c39 => ?_) (fun c39 => ?_) | with_reducible refine x_if_neN (M := mX20_check) (pc := 39) 44 dX20_check_39 (by decide) (by omega) (fun c39 => ?_) (fun c39 => ?_) | refine x_if_ne (M := mX20_check) (pc := 39) 44 dX20_check_39 (by decide) (fun c39 => ?_) (fun c39 => ?_)
  refine x_aload_n (M := mX20_check) (pc := 44) dX20_check_44 rfl ?_
  refine x_getN (M := mX20_check) (pc := 45) kcX2 11 rfl q259 dX20_check_45 (by first | assumption | exact xu_s _ _ _ | exact (xu_n (by first | assumption | exact Ne.symm (by assumption) | exact xu_fresh (by assumption) (by assumption) | exact (xu_fresh (by assumption) (by assumption)).symm)).trans (by first | assumption | exact xu_s _ _ _ | exact (xu_n (by first | assumption | exact Ne.symm (by assumption) | exact xu_fresh (by assumption) (by assumption) | exact (xu_fresh (by assumption) (by assumption)).symm)).trans (by first | assumption | exact xu_s _ _ _ | exact (xu_n (by first | assumption | exact Ne.symm (by assumption) | exact xu_fresh (by assumption) (by assumption) | exact (xu_fresh (by assumption) (by assumption)).symm)).trans (by first | assumption | exact xu_s _ _ _)))) rfl ?_
  refine x_V0 (M := mX20_check) (pc := 48) (M' := mJ2_size) q603 kVJ2_size dX20_check_48 (j_size h _ _ (d - 1) xs A1) (A1.is) (fun v_ h hq_ => ?_)
  obtain ⟨hv_, rfl⟩ := hq_; cases hv_
  refine x_bipush (M := mX20_check) (pc := 51) (v := nI 8) dX20_check_51 (by decide) ?_
  first | with_reducible refine x_icmp_neN (M := mX20_check) (pc := 53) 61 dX20_check_53 (by decide) (by omega) (by omega) (fun c53 => ?_) (fun c53 => ?_) | refine x_icmp_ne (M := mX20_check) (pc := 53) 61 dX20_check_53 (by decide) (fun c53 => ?_) (fun c53 => ?_)
  rotate_left
  rotate_left
  exact bad (by rw [c39, Bool.and_false])
  all_goals have q : (bIn x 0 (2 * (s 0 * s 1) - 1) && bIn y 0 31 && bIn z 0 1) = true := by rw [e2, show bIn x 0 _ = true from c16, show bIn y 0 31 = true from c29, c39]; rfl
  · refine x_iconst (M := mX20_check) (pc := 61) (v := nI 0) dX20_check_61 (by decide) ?_
    refine x_iret (M := mX20_check) (pc := 62) dX20_check_62 rfl (by first | exact Nat.le_of_ble_eq_true rfl | omega) (by first | exact Nat.le_of_ble_eq_true rfl | omega) ?_
    exact ⟨kkO (by unfold c_see; rw [if_neg (by rw [q]; decide), if_neg (by omega)]), rfl⟩
  · refine x_bipush (M := mX20_check) (pc := 56) (v := (-3)) dX20_check_56 (by decide) ?_
    refine x_goto (M := mX20_check) (pc := 58) 62 dX20_check_58 (by decide) ?_
    refine x_iret (M := mX20_check) (pc := 62) dX20_check_62 rfl (by first | exact Nat.le_of_ble_eq_true rfl | omega) (by first | exact Nat.le_of_ble_eq_true rfl | omega) ?_
    exact ⟨kkE (by unfold c_see; rw [if_neg (by rw [q]; decide), if_pos (by omega)]), rfl⟩
theorem ck_addNote (h : xH) (cm sh d : Nat) (hd : 2 ≤ d) (P : Nat → Nat) (s : Row) (xs ys : List Nat) (hW : WF s) (hS : SHP g h sh P s xs ys) (x y z w : Int32) (hc : h cm = some (.inr (20, [.int x, .int y, .int z, .int w]))) : Ct g l mX22_check d 0 0 [.ref cm, .ref sh] h (fun o h' => o = .inl (some (.int (kC (c_addNote s x y z w)))) ∧ h' = h) := by
  have n12 := hW.n12
  have hsh := hS.1
  obtain ⟨A1, A2, A3⟩ := hS.2.2.2.2.2.2.1
  unfold shE at hsh
  have bad : (bIn x 0 99 && bIn y 0 9 && bIn z 1 20 && bIn w 0 1) = false → X g l mX22_check d 0 0 (fun o h' => o = .inl (some (.int (kC (c_addNote s x y z w)))) ∧ h' = h) 49 [some (.ref cm), some (.ref sh)] [] h 0 0 := fun q => by
    refine x_iconst (M := mX22_check) (pc := 49) (v := (-1)) dX22_check_49 (by decide) ?_
    refine x_iret (M := mX22_check) (pc := 50) dX22_check_50 rfl (by first | exact Nat.le_of_ble_eq_true rfl | omega) (by first | exact Nat.le_of_ble_eq_true rfl | omega) ?_
    exact ⟨kkE (by unfold c_addNote; rw [if_pos q]), rfl⟩
  refine Ct.of [some (.ref cm), some (.ref sh)] (by decide +kernel) rfl (Nat.le_of_ble_eq_true rfl) rfl rfl ?_
  refine x_aload_n (M := mX22_check) (pc := 0) dX22_check_0 rfl ?_
  refine x_get (M := mX22_check) (pc := 1) kcX22 0 rfl q1540 dX22_check_1 (by first | assumption | exact xu_s _ _ _ | exact (xu_n (by first | assumption | exact Ne.symm (by assumption) | exact xu_fresh (by assumption) (by assumption) | exact (xu_fresh (by assumption) (by assumption)).symm)).trans (by first | assumption | exact xu_s _ _ _ | exact (xu_n (by first | assumption | exact Ne.symm (by assumption) | exact xu_fresh (by assumption) (by assumption) | exact (xu_fresh (by assumption) (by assumption)).symm)).trans (by first | assumption | exact xu_s _ _ _ | exact (xu_n (by first | assumption | exact Ne.symm (by assumption) | exact xu_fresh (by assumption) (by assumption) | exact (xu_fresh (by assumption) (by assumption)).symm)).trans (by first | assumption | exact xu_s _ _ _)))) rfl ?_
  refine x_iconst (M := mX22_check) (pc := 4) (v := nI 0) dX22_check_4 (by decide) ?_
  refine x_bipush (M := mX22_check) (pc := 5) (v := nI 99) dX22_check_5 (by decide) ?_
  refine x_SN3 (M := mX22_check) (pc := 7) (M' := mX0_isIn) q412 kSX0_isIn dX22_check_7 (c_isIn h x 0 99 (d - 1)) (fun v_ h hq_ => ?_)
  obtain ⟨hv_, rfl⟩ := hq_; cases hv_
  first | with_reducible refine x_ifB_eq (M := mX22_check) (pc := 10) 49 dX22_check_10 (by decide) (fun c10 => ?_) (fun c10 => ?_) | with_reducible refine x_if_eqN (M := mX22_check) (pc := 10) 49 dX22_check_10 (by decide) (by omega) (fun c10 => ?_) (fun c10 => ?_) | refine x_if_eq (M := mX22_check) (pc := 10) 49 dX22_check_10 (by decide) (fun c10 => ?_) (fun c10 => ?_)
  exact bad (by rw [show bIn x 0 99 = false from c10]; rfl)
  refine x_aload_n (M := mX22_check) (pc := 13) dX22_check_13 rfl ?_
  refine x_get (M := mX22_check) (pc := 14) kcX22 1 rfl q1541 dX22_check_14 (by first | assumption | exact xu_s _ _ _ | exact (xu_n (by first | assumption | exact Ne.symm (by assumption) | exact xu_fresh (by assumption) (by assumption) | exact (xu_fresh (by assumption) (by assumption)).symm)).trans (by first | assumption | exact xu_s _ _ _ | exact (xu_n (by first | assumption | exact Ne.symm (by assumption) | exact xu_fresh (by assumption) (by assumption) | exact (xu_fresh (by assumption) (by assumption)).symm)).trans (by first | assumption | exact xu_s _ _ _ | exact (xu_n (by first | assumption | exact Ne.symm (by assumption) | exact xu_fresh (by assumption) (by assumption) | exact (xu_fresh (by assumption) (by assumption)).symm)).trans (by first | assumption | exact xu_s _ _ _)))) rfl ?_
  refine x_iconst (M := mX22_check) (pc := 17) (v := nI 0) dX22_check_17 (by decide) ?_
  refine x_bipush (M := mX22_check) (pc := 18) (v := nI 9) dX22_check_18 (by decide) ?_
  refine x_SN3 (M := mX22_check) (pc := 20) (M' := mX0_isIn) q412 kSX0_isIn dX22_check_20 (c_isIn h y 0 9 (d - 1)) (fun v_ h hq_ => ?_)
  obtain ⟨hv_, rfl⟩ := hq_; cases hv_
  first | with_reducible refine x_ifB_eq (M := mX22_check) (pc := 23) 49 dX22_check_23 (by decide) (fun c23 => ?_) (fun c23 => ?_) | with_reducible refine x_if_eqN (M := mX22_check) (pc := 23) 49 dX22_check_23 (by decide) (by omega) (fun c23 => ?_) (fun c23 => ?_) | refine x_if_eq (M := mX22_check) (pc := 23) 49 dX22_check_23 (by decide) (fun c23 => ?_) (fun c23 => ?_)
  exact bad (by rw [show bIn y 0 9 = false from c23, Bool.and_false]; rfl)
  refine x_aload_n (M := mX22_check) (pc := 26) dX22_check_26 rfl ?_
  refine x_get (M := mX22_check) (pc := 27) kcX22 2 rfl q1542 dX22_check_27 (by first | assumption | exact xu_s _ _ _ | exact (xu_n (by first | assumption | exact Ne.symm (by assumption) | exact xu_fresh (by assumption) (by assumption) | exact (xu_fresh (by assumption) (by assumption)).symm)).trans (by first | assumption | exact xu_s _ _ _ | exact (xu_n (by first | assumption | exact Ne.symm (by assumption) | exact xu_fresh (by assumption) (by assumption) | exact (xu_fresh (by assumption) (by assumption)).symm)).trans (by first | assumption | exact xu_s _ _ _ | exact (xu_n (by first | assumption | exact Ne.symm (by assumption) | exact xu_fresh (by assumption) (by assumption) | exact (xu_fresh (by assumption) (by assumption)).symm)).trans (by first | assumption | exact xu_s _ _ _)))) rfl ?_
  refine x_iconst (M := mX22_check) (pc := 30) (v := nI 1) dX22_check_30 (by decide) ?_
  refine x_bipush (M := mX22_check) (pc := 31) (v := nI 20) dX22_check_31 (by decide) ?_
  refine x_SN3 (M := mX22_check) (pc := 33) (M' := mX0_isIn) q412 kSX0_isIn dX22_check_33 (c_isIn h z 1 20 (d - 1)) (fun v_ h hq_ => ?_)
  obtain ⟨hv_, rfl⟩ := hq_; cases hv_
  first | with_reducible refine x_ifB_eq (M := mX22_check) (pc := 36) 49 dX22_check_36 (by decide) (fun c36 => ?_) (fun c36 => ?_) | with_reducible refine x_if_eqN (M := mX22_check) (pc := 36) 49 dX22_check_36 (by decide) (by omega) (fun c36 => ?_) (fun c36 => ?_) | refine x_if_eq (M := mX22_check) (pc := 36) 49 dX22_check_36 (by decide) (fun c36 => ?_) (fun c36 => ?_)
  exact bad (by rw [show bIn z 1 20 = false from c36, Bool.and_false]; rfl)
  refine x_aload_n (M := mX22_check) (pc := 39) dX22_check_39 rfl ?_
  refine x_get (M := mX22_check) (pc := 40) kcX22 3 rfl q1543 dX22_check_40 (by first | assumption | exact xu_s _ _ _ | exact (xu_n (by first | assumption | exact Ne.symm (by assumption) | exact xu_fresh (by assumption) (by assumption) | exact (xu_fresh (by assumption) (by assumption)).symm)).trans (by first | assumption | exact xu_s _ _ _ | exact (xu_n (by first | assumption | exact Ne.symm (by assumption) | exact xu_fresh (by assumption) (by assumption) | exact (xu_fresh (by assumption) (by assumption)).symm)).trans (by first | assumption | exact xu_s _ _ _ | exact (xu_n (by first | assumption | exact Ne.symm (by assumption) | exact xu_fresh (by assumption) (by assumption) | exact (xu_fresh (by assumption) (by assumption)).symm)).trans (by first | assumption | exact xu_s _ _ _)))) rfl ?_
  refine x_SN1 (M := mX22_check) (pc := 43) (M' := mX0_isBit) q415 kSX0_isBit dX22_check_43 (c_isBit h w (d - 1) (by omega)) (fun v_ h hq_ => ?_)
  obtain ⟨hv_, rfl⟩ := hq_; cases hv_
  first | with_reducible refine x_ifB_ne (M := mX22_check) (pc := 46) 51 dX22_check_46 (by decide) (fun c46 => ?_) (fun c46 => ?_) | with_reducible refine x_if_neN (M := mX22_check) (pc := 46) 51 dX22_check_46 (by decide) (by omega) (fun c46 => ?_) (fun c46 => ?_) | refine x_if_ne (M := mX22_check) (pc := 46) 51 dX22_check_46 (by decide) (fun c46 => ?_) (fun c46 => ?_)
  refine x_aload_n (M := mX22_check) (pc := 51) dX22_check_51 rfl ?_
  refine x_getN (M := mX22_check) (pc := 52) kcX2 12 rfl q267 dX22_check_52 (by first | assumption | exact xu_s _ _ _ | exact (xu_n (by first | assumption | exact Ne.symm (by assumption) | exact xu_fresh (by assumption) (by assumption) | exact (xu_fresh (by assumption) (by assumption)).symm)).trans (by first | assumption | exact xu_s _ _ _ | exact (xu_n (by first | assumption | exact Ne.symm (by assumption) | exact xu_fresh (by assumption) (by assumption) | exact (xu_fresh (by assumption) (by assumption)).symm)).trans (by first | assumption | exact xu_s _ _ _ | exact (xu_n (by first | assumption | exact Ne.symm (by assumption) | exact xu_fresh (by assumption) (by assumption) | exact (xu_fresh (by assumption) (by assumption)).symm)).trans (by first | assumption | exact xu_s _ _ _)))) rfl ?_
  refine x_V0 (M := mX22_check) (pc := 55) (M' := mJ2_size) q419 kVJ2_size dX22_check_55 (j_size h _ _ (d - 1) ys A1) (A1.is) (fun v_ h hq_ => ?_)
  obtain ⟨hv_, rfl⟩ := hq_; cases hv_
  refine x_bipush (M := mX22_check) (pc := 58) (v := nI 12) dX22_check_58 (by decide) ?_
  first | with_reducible refine x_icmp_neN (M := mX22_check) (pc := 60) 68 dX22_check_60 (by decide) (by omega) (by omega) (fun c60 => ?_) (fun c60 => ?_) | refine x_icmp_ne (M := mX22_check) (pc := 60) 68 dX22_check_60 (by decide) (fun c60 => ?_) (fun c60 => ?_)
  rotate_left
  rotate_left
  exact bad (by rw [c46, Bool.and_false])
  all_goals have q : (bIn x 0 99 && bIn y 0 9 && bIn z 1 20 && bIn w 0 1) = true := by rw [show bIn x 0 99 = true from c10, show bIn y 0 9 = true from c23, show bIn z 1 20 = true from c36, c46]; rfl
  · refine x_iconst (M := mX22_check) (pc := 68) (v := nI 0) dX22_check_68 (by decide) ?_
    refine x_iret (M := mX22_check) (pc := 69) dX22_check_69 rfl (by first | exact Nat.le_of_ble_eq_true rfl | omega) (by first | exact Nat.le_of_ble_eq_true rfl | omega) ?_
    exact ⟨kkO (by unfold c_addNote; rw [if_neg (by rw [q]; decide), if_neg (by omega)]), rfl⟩
  · refine x_bipush (M := mX22_check) (pc := 63) (v := (-3)) dX22_check_63 (by decide) ?_
    refine x_goto (M := mX22_check) (pc := 65) 69 dX22_check_65 (by decide) ?_
    refine x_iret (M := mX22_check) (pc := 69) dX22_check_69 rfl (by first | exact Nat.le_of_ble_eq_true rfl | omega) (by first | exact Nat.le_of_ble_eq_true rfl | omega) ?_
    exact ⟨kkE (by unfold c_addNote; rw [if_neg (by rw [q]; decide), if_pos (by omega)]), rfl⟩
theorem ck_remNote (h : xH) (cm sh d : Nat) (hd : 2 ≤ d) (P : Nat → Nat) (s : Row) (xs ys : List Nat) (hW : WF s) (hS : SHP g h sh P s xs ys) (x : Int32) (hc : h cm = some (.inr (21, [.int x]))) : Ct g l mX23_check d 0 0 [.ref cm, .ref sh] h (fun o h' => o = .inl (some (.int (kC (c_removeNote s x)))) ∧ h' = h) := by
  have n12 := hW.n12
  have h37 := hW.2.2.2.2.2.2.2.2.1.1
  have hsh := hS.1
  obtain ⟨A1, A2, A3⟩ := hS.2.2.2.2.2.2.1
  unfold shE at hsh
  refine Ct.of [some (.ref cm), some (.ref sh)] (by decide +kernel) rfl (Nat.le_of_ble_eq_true rfl) rfl rfl ?_
  refine x_aload_n (M := mX23_check) (pc := 0) dX23_check_0 rfl ?_
  refine x_get (M := mX23_check) (pc := 1) kcX23 0 rfl q1563 dX23_check_1 (by first | assumption | exact xu_s _ _ _ | exact (xu_n (by first | assumption | exact Ne.symm (by assumption) | exact xu_fresh (by assumption) (by assumption) | exact (xu_fresh (by assumption) (by assumption)).symm)).trans (by first | assumption | exact xu_s _ _ _ | exact (xu_n (by first | assumption | exact Ne.symm (by assumption) | exact xu_fresh (by assumption) (by assumption) | exact (xu_fresh (by assumption) (by assumption)).symm)).trans (by first | assumption | exact xu_s _ _ _ | exact (xu_n (by first | assumption | exact Ne.symm (by assumption) | exact xu_fresh (by assumption) (by assumption) | exact (xu_fresh (by assumption) (by assumption)).symm)).trans (by first | assumption | exact xu_s _ _ _)))) rfl ?_
  refine x_iconst (M := mX23_check) (pc := 4) (v := nI 0) dX23_check_4 (by decide) ?_
  refine x_aload_n (M := mX23_check) (pc := 5) dX23_check_5 rfl ?_
  refine x_getN (M := mX23_check) (pc := 6) kcX2 12 rfl q266 dX23_check_6 (by first | assumption | exact xu_s _ _ _ | exact (xu_n (by first | assumption | exact Ne.symm (by assumption) | exact xu_fresh (by assumption) (by assumption) | exact (xu_fresh (by assumption) (by assumption)).symm)).trans (by first | assumption | exact xu_s _ _ _ | exact (xu_n (by first | assumption | exact Ne.symm (by assumption) | exact xu_fresh (by assumption) (by assumption) | exact (xu_fresh (by assumption) (by assumption)).symm)).trans (by first | assumption | exact xu_s _ _ _ | exact (xu_n (by first | assumption | exact Ne.symm (by assumption) | exact xu_fresh (by assumption) (by assumption) | exact (xu_fresh (by assumption) (by assumption)).symm)).trans (by first | assumption | exact xu_s _ _ _)))) rfl ?_
  refine x_V0 (M := mX23_check) (pc := 9) (M' := mJ2_size) q592 kVJ2_size dX23_check_9 (j_size h _ _ (d - 1) ys A1) (A1.is) (fun v_ h hq_ => ?_)
  obtain ⟨hv_, rfl⟩ := hq_; cases hv_
  refine x_iconst (M := mX23_check) (pc := 12) (v := 1) dX23_check_12 (by decide) ?_
  first | with_reducible refine x_isubN (M := mX23_check) (pc := 13) dX23_check_13 (by fail) ?_ | refine x_isub (M := mX23_check) (pc := 13) dX23_check_13 ?_
  refine x_SN3 (M := mX23_check) (pc := 14) (M' := mX0_isIn) q593 kSX0_isIn dX23_check_14 (c_isIn h x 0 (nI ys.length - 1) (d - 1)) (fun v_ h hq_ => ?_)
  obtain ⟨hv_, rfl⟩ := hq_; cases hv_
  first | with_reducible refine x_ifB_eq (M := mX23_check) (pc := 17) 24 dX23_check_17 (by decide) (fun c17 => ?_) (fun c17 => ?_) | with_reducible refine x_if_eqN (M := mX23_check) (pc := 17) 24 dX23_check_17 (by decide) (by omega) (fun c17 => ?_) (fun c17 => ?_) | refine x_if_eq (M := mX23_check) (pc := 17) 24 dX23_check_17 (by decide) (fun c17 => ?_) (fun c17 => ?_)
  rotate_left
  rotate_left
  · refine x_iconst (M := mX23_check) (pc := 24) (v := (-1)) dX23_check_24 (by decide) ?_
    refine x_iret (M := mX23_check) (pc := 25) dX23_check_25 rfl (by first | exact Nat.le_of_ble_eq_true rfl | omega) (by first | exact Nat.le_of_ble_eq_true rfl | omega) ?_
    exact ⟨kkE (by unfold c_removeNote; rw [if_pos (by rw [h37, ← A2]; exact c17)]), rfl⟩
  · refine x_iconst (M := mX23_check) (pc := 20) (v := nI 0) dX23_check_20 (by decide) ?_
    refine x_goto (M := mX23_check) (pc := 21) 25 dX23_check_21 (by decide) ?_
    refine x_iret (M := mX23_check) (pc := 25) dX23_check_25 rfl (by first | exact Nat.le_of_ble_eq_true rfl | omega) (by first | exact Nat.le_of_ble_eq_true rfl | omega) ?_
    exact ⟨kkO (by unfold c_removeNote; rw [if_neg (by rw [h37, ← A2]; rw [show bIn x 0 (nI ys.length - 1) = true from c17]; decide)]), rfl⟩
end CHECK
