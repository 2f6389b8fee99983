/-! the public commands (by program: gen_pub.py) -/
section PUB
set_option maxRecDepth 100000
variable {g : xG} {l : Launch} {h h0 h' : xH}
theorem PF.pre {h1 : xH} {ow : Nat → Option Nat} {cb dq arr sb tb len m : Nat} {tx : Nat → Nat} {x : HE} {hs : List HE} {res : CRes} {o : xO} (hl : xle h h1) (hP : PF g h1 ow cb dq arr sb tb len m tx x hs res o h') : PF g h ow cb dq arr sb tb len m tx x hs res o h' := by
  cases res with
  | inl e => obtain ⟨a, ow', hd, b, c⟩ := hP; exact ⟨a, ow', hd, b, (KP.le hl).tr c (nn_le hl)⟩
  | inr r => obtain ⟨a, ow', hd, q, q', b, c⟩ := hP; exact ⟨a, ow', hd, q, q', b, (KP.le hl).tr c (nn_le hl)⟩
theorem PF.no {ow : Nat → Option Nat} {cb dq arr sb tb len m p : Nat} {tx : Nat → Nat} {x : HE} {hs : List HE} {res : CRes} : ¬ PF g h ow cb dq arr sb tb len m tx x hs res (.inr p) h' := by
  intro hP
  cases res with
  | inl e => exact absurd hP.1 (by simp)
  | inr r => exact absurd hP.1 (by simp)
theorem ci_X4 (h : xH) (a d : Nat) (hd : 2 ≤ d) (x0 x1 : Int32) (v0 v1 : Value) (ha : h a = some (.inr (4, [v0, v1]))) : Ct g l mX4_init d 0 0 [.ref a, .int x0, .int x1] h (fun o h' => o = .inl none ∧ h' = xu h a (.inr (4, [.int x0, .int x1]))) := by
  refine Ct.of [some (.ref a), some (.int x0), some (.int x1)] (by decide +kernel) rfl (Nat.le_of_ble_eq_true rfl) rfl rfl ?_
  refine x_aload_n (M := mX4_init) (pc := 0) dX4_init_0 rfl ?_
  refine x_I0 (M := mX4_init) (pc := 1) (M' := mJ8_init) q387 kIJ8_init dX4_init_1 (j_recInit h a (d - 1) (by omega)) (fun v_ h hq_ => ?_)
  obtain ⟨hv_, rfl⟩ := hq_; cases hv_
  refine x_aload_n (M := mX4_init) (pc := 4) dX4_init_4 rfl ?_
  refine x_iload_n (M := mX4_init) (pc := 5) dX4_init_5 rfl ?_
  first | refine x_putF0' (M := mX4_init) (pc := 6) kcX4 q391 dX4_init_6 ?_ | refine x_putF0 (M := mX4_init) (pc := 6) kcX4 q391 dX4_init_6 (by first | assumption | exact xu_s _ _ _ | exact (xu_n (by first | assumption | exact Ne.symm (by assumption) | exact xu_fresh (by assumption) (by assumption) | exact (xu_fresh (by assumption) (by assumption)).symm)).trans (by first | assumption | exact xu_s _ _ _ | exact (xu_n (by first | assumption | exact Ne.symm (by assumption) | exact xu_fresh (by assumption) (by assumption) | exact (xu_fresh (by assumption) (by assumption)).symm)).trans (by first | assumption | exact xu_s _ _ _ | exact (xu_n (by first | assumption | exact Ne.symm (by assumption) | exact xu_fresh (by assumption) (by assumption) | exact (xu_fresh (by assumption) (by assumption)).symm)).trans (by first | assumption | exact xu_s _ _ _)))) ?_
  refine x_aload_n (M := mX4_init) (pc := 9) dX4_init_9 rfl ?_
  refine x_iload_n (M := mX4_init) (pc := 10) dX4_init_10 rfl ?_
  first | refine x_putF1' (M := mX4_init) (pc := 11) kcX4 q392 dX4_init_11 ?_ | refine x_putF1 (M := mX4_init) (pc := 11) kcX4 q392 dX4_init_11 (by first | assumption | exact xu_s _ _ _ | exact (xu_n (by first | assumption | exact Ne.symm (by assumption) | exact xu_fresh (by assumption) (by assumption) | exact (xu_fresh (by assumption) (by assumption)).symm)).trans (by first | assumption | exact xu_s _ _ _ | exact (xu_n (by first | assumption | exact Ne.symm (by assumption) | exact xu_fresh (by assumption) (by assumption) | exact (xu_fresh (by assumption) (by assumption)).symm)).trans (by first | assumption | exact xu_s _ _ _ | exact (xu_n (by first | assumption | exact Ne.symm (by assumption) | exact xu_fresh (by assumption) (by assumption) | exact (xu_fresh (by assumption) (by assumption)).symm)).trans (by first | assumption | exact xu_s _ _ _)))) ?_
  refine x_vret (M := mX4_init) (pc := 14) dX4_init_14 rfl (by first | exact Nat.le_of_ble_eq_true rfl | omega) (by first | exact Nat.le_of_ble_eq_true rfl | omega) ?_
  exact ⟨rfl, rfl⟩
theorem ci_X11 (h : xH) (a d : Nat) (hd : 2 ≤ d) (x0 : Int32) (v0 : Value) (ha : h a = some (.inr (11, [v0]))) : Ct g l mX11_init d 0 0 [.ref a, .int x0] h (fun o h' => o = .inl none ∧ h' = xu h a (.inr (11, [.int x0]))) := by
  refine Ct.of [some (.ref a), some (.int x0)] (by decide +kernel) rfl (Nat.le_of_ble_eq_true rfl) rfl rfl ?_
  refine x_aload_n (M := mX11_init) (pc := 0) dX11_init_0 rfl ?_
  refine x_I0 (M := mX11_init) (pc := 1) (M' := mJ8_init) q1373 kIJ8_init dX11_init_1 (j_recInit h a (d - 1) (by omega)) (fun v_ h hq_ => ?_)
  obtain ⟨hv_, rfl⟩ := hq_; cases hv_
  refine x_aload_n (M := mX11_init) (pc := 4) dX11_init_4 rfl ?_
  refine x_iload_n (M := mX11_init) (pc := 5) dX11_init_5 rfl ?_
  first | refine x_putF0' (M := mX11_init) (pc := 6) kcX11 q1374 dX11_init_6 ?_ | refine x_putF0 (M := mX11_init) (pc := 6) kcX11 q1374 dX11_init_6 (by first | assumption | exact xu_s _ _ _ | exact (xu_n (by first | assumption | exact Ne.symm (by assumption) | exact xu_fresh (by assumption) (by assumption) | exact (xu_fresh (by assumption) (by assumption)).symm)).trans (by first | assumption | exact xu_s _ _ _ | exact (xu_n (by first | assumption | exact Ne.symm (by assumption) | exact xu_fresh (by assumption) (by assumption) | exact (xu_fresh (by assumption) (by assumption)).symm)).trans (by first | assumption | exact xu_s _ _ _ | exact (xu_n (by first | assumption | exact Ne.symm (by assumption) | exact xu_fresh (by assumption) (by assumption) | exact (xu_fresh (by assumption) (by assumption)).symm)).trans (by first | assumption | exact xu_s _ _ _)))) ?_
  refine x_vret (M := mX11_init) (pc := 9) dX11_init_9 rfl (by first | exact Nat.le_of_ble_eq_true rfl | omega) (by first | exact Nat.le_of_ble_eq_true rfl | omega) ?_
  exact ⟨rfl, rfl⟩
theorem ci_X12 (h : xH) (a d : Nat) (hd : 2 ≤ d) : Ct g l mX12_init d 0 0 [.ref a] h (fun o h' => o = .inl none ∧ h' = h) := by
  refine Ct.of [some (.ref a)] (by decide +kernel) rfl (Nat.le_of_ble_eq_true rfl) rfl rfl ?_
  refine x_aload_n (M := mX12_init) (pc := 0) dX12_init_0 rfl ?_
  refine x_I0 (M := mX12_init) (pc := 1) (M' := mJ8_init) q1387 kIJ8_init dX12_init_1 (j_recInit h a (d - 1) (by omega)) (fun v_ h hq_ => ?_)
  obtain ⟨hv_, rfl⟩ := hq_; cases hv_
  refine x_vret (M := mX12_init) (pc := 4) dX12_init_4 rfl (by first | exact Nat.le_of_ble_eq_true rfl | omega) (by first | exact Nat.le_of_ble_eq_true rfl | omega) ?_
  exact ⟨rfl, rfl⟩
theorem ci_X13 (h : xH) (a d : Nat) (hd : 2 ≤ d) (x0 : Int32) (v0 : Value) (ha : h a = some (.inr (12, [v0]))) : Ct g l mX13_init d 0 0 [.ref a, .int x0] h (fun o h' => o = .inl none ∧ h' = xu h a (.inr (12, [.int x0]))) := by
  refine Ct.of [some (.ref a), some (.int x0)] (by decide +kernel) rfl (Nat.le_of_ble_eq_true rfl) rfl rfl ?_
  refine x_aload_n (M := mX13_init) (pc := 0) dX13_init_0 rfl ?_
  refine x_I0 (M := mX13_init) (pc := 1) (M' := mJ8_init) q1398 kIJ8_init dX13_init_1 (j_recInit h a (d - 1) (by omega)) (fun v_ h hq_ => ?_)
  obtain ⟨hv_, rfl⟩ := hq_; cases hv_
  refine x_aload_n (M := mX13_init) (pc := 4) dX13_init_4 rfl ?_
  refine x_iload_n (M := mX13_init) (pc := 5) dX13_init_5 rfl ?_
  first | refine x_putF0' (M := mX13_init) (pc := 6) kcX13 q1399 dX13_init_6 ?_ | refine x_putF0 (M := mX13_init) (pc := 6) kcX13 q1399 dX13_init_6 (by first | assumption | exact xu_s _ _ _ | exact (xu_n (by first | assumption | exact Ne.symm (by assumption) | exact xu_fresh (by assumption) (by assumption) | exact (xu_fresh (by assumption) (by assumption)).symm)).trans (by first | assumption | exact xu_s _ _ _ | exact (xu_n (by first | assumption | exact Ne.symm (by assumption) | exact xu_fresh (by assumption) (by assumption) | exact (xu_fresh (by assumption) (by assumption)).symm)).trans (by first | assumption | exact xu_s _ _ _ | exact (xu_n (by first | assumption | exact Ne.symm (by assumption) | exact xu_fresh (by assumption) (by assumption) | exact (xu_fresh (by assumption) (by assumption)).symm)).trans (by first | assumption | exact xu_s _ _ _)))) ?_
  refine x_vret (M := mX13_init) (pc := 9) dX13_init_9 rfl (by first | exact Nat.le_of_ble_eq_true rfl | omega) (by first | exact Nat.le_of_ble_eq_true rfl | omega) ?_
  exact ⟨rfl, rfl⟩
theorem ci_X14 (h : xH) (a d : Nat) (hd : 2 ≤ d) (x0 x1 x2 x3 x4 : Int32) (v0 v1 v2 v3 v4 : Value) (ha : h a = some (.inr (13, [v0, v1, v2, v3, v4]))) : Ct g l mX14_init d 0 0 [.ref a, .int x0, .int x1, .int x2, .int x3, .int x4] h (fun o h' => o = .inl none ∧ h' = xu h a (.inr (13, [.int x0, .int x1, .int x2, .int x3, .int x4]))) := by
  refine Ct.of [some (.ref a), some (.int x0), some (.int x1), some (.int x2), some (.int x3), some (.int x4)] (by decide +kernel) rfl (Nat.le_of_ble_eq_true rfl) rfl rfl ?_
  refine x_aload_n (M := mX14_init) (pc := 0) dX14_init_0 rfl ?_
  refine x_I0 (M := mX14_init) (pc := 1) (M' := mJ8_init) q1412 kIJ8_init dX14_init_1 (j_recInit h a (d - 1) (by omega)) (fun v_ h hq_ => ?_)
  obtain ⟨hv_, rfl⟩ := hq_; cases hv_
  refine x_aload_n (M := mX14_init) (pc := 4) dX14_init_4 rfl ?_
  refine x_iload_n (M := mX14_init) (pc := 5) dX14_init_5 rfl ?_
  first | refine x_putF0' (M := mX14_init) (pc := 6) kcX14 q1413 dX14_init_6 ?_ | refine x_putF0 (M := mX14_init) (pc := 6) kcX14 q1413 dX14_init_6 (by first | assumption | exact xu_s _ _ _ | exact (xu_n (by first | assumption | exact Ne.symm (by assumption) | exact xu_fresh (by assumption) (by assumption) | exact (xu_fresh (by assumption) (by assumption)).symm)).trans (by first | assumption | exact xu_s _ _ _ | exact (xu_n (by first | assumption | exact Ne.symm (by assumption) | exact xu_fresh (by assumption) (by assumption) | exact (xu_fresh (by assumption) (by assumption)).symm)).trans (by first | assumption | exact xu_s _ _ _ | exact (xu_n (by first | assumption | exact Ne.symm (by assumption) | exact xu_fresh (by assumption) (by assumption) | exact (xu_fresh (by assumption) (by assumption)).symm)).trans (by first | assumption | exact xu_s _ _ _)))) ?_
  refine x_aload_n (M := mX14_init) (pc := 9) dX14_init_9 rfl ?_
  refine x_iload_n (M := mX14_init) (pc := 10) dX14_init_10 rfl ?_
  first | refine x_putF1' (M := mX14_init) (pc := 11) kcX14 q1414 dX14_init_11 ?_ | refine x_putF1 (M := mX14_init) (pc := 11) kcX14 q1414 dX14_init_11 (by first | assumption | exact xu_s _ _ _ | exact (xu_n (by first | assumption | exact Ne.symm (by assumption) | exact xu_fresh (by assumption) (by assumption) | exact (xu_fresh (by assumption) (by assumption)).symm)).trans (by first | assumption | exact xu_s _ _ _ | exact (xu_n (by first | assumption | exact Ne.symm (by assumption) | exact xu_fresh (by assumption) (by assumption) | exact (xu_fresh (by assumption) (by assumption)).symm)).trans (by first | assumption | exact xu_s _ _ _ | exact (xu_n (by first | assumption | exact Ne.symm (by assumption) | exact xu_fresh (by assumption) (by assumption) | exact (xu_fresh (by assumption) (by assumption)).symm)).trans (by first | assumption | exact xu_s _ _ _)))) ?_
  refine x_aload_n (M := mX14_init) (pc := 14) dX14_init_14 rfl ?_
  refine x_iload_n (M := mX14_init) (pc := 15) dX14_init_15 rfl ?_
  first | refine x_putF2' (M := mX14_init) (pc := 16) kcX14 q1415 dX14_init_16 ?_ | refine x_putF2 (M := mX14_init) (pc := 16) kcX14 q1415 dX14_init_16 (by first | assumption | exact xu_s _ _ _ | exact (xu_n (by first | assumption | exact Ne.symm (by assumption) | exact xu_fresh (by assumption) (by assumption) | exact (xu_fresh (by assumption) (by assumption)).symm)).trans (by first | assumption | exact xu_s _ _ _ | exact (xu_n (by first | assumption | exact Ne.symm (by assumption) | exact xu_fresh (by assumption) (by assumption) | exact (xu_fresh (by assumption) (by assumption)).symm)).trans (by first | assumption | exact xu_s _ _ _ | exact (xu_n (by first | assumption | exact Ne.symm (by assumption) | exact xu_fresh (by assumption) (by assumption) | exact (xu_fresh (by assumption) (by assumption)).symm)).trans (by first | assumption | exact xu_s _ _ _)))) ?_
  refine x_aload_n (M := mX14_init) (pc := 19) dX14_init_19 rfl ?_
  refine x_iload (M := mX14_init) (pc := 20) dX14_init_20 rfl ?_
  first | refine x_putF3' (M := mX14_init) (pc := 22) kcX14 q1416 dX14_init_22 ?_ | refine x_putF3 (M := mX14_init) (pc := 22) kcX14 q1416 dX14_init_22 (by first | assumption | exact xu_s _ _ _ | exact (xu_n (by first | assumption | exact Ne.symm (by assumption) | exact xu_fresh (by assumption) (by assumption) | exact (xu_fresh (by assumption) (by assumption)).symm)).trans (by first | assumption | exact xu_s _ _ _ | exact (xu_n (by first | assumption | exact Ne.symm (by assumption) | exact xu_fresh (by assumption) (by assumption) | exact (xu_fresh (by assumption) (by assumption)).symm)).trans (by first | assumption | exact xu_s _ _ _ | exact (xu_n (by first | assumption | exact Ne.symm (by assumption) | exact xu_fresh (by assumption) (by assumption) | exact (xu_fresh (by assumption) (by assumption)).symm)).trans (by first | assumption | exact xu_s _ _ _)))) ?_
  refine x_aload_n (M := mX14_init) (pc := 25) dX14_init_25 rfl ?_
  refine x_iload (M := mX14_init) (pc := 26) dX14_init_26 rfl ?_
  first | refine x_putF4' (M := mX14_init) (pc := 28) kcX14 q1417 dX14_init_28 ?_ | refine x_putF4 (M := mX14_init) (pc := 28) kcX14 q1417 dX14_init_28 (by first | assumption | exact xu_s _ _ _ | exact (xu_n (by first | assumption | exact Ne.symm (by assumption) | exact xu_fresh (by assumption) (by assumption) | exact (xu_fresh (by assumption) (by assumption)).symm)).trans (by first | assumption | exact xu_s _ _ _ | exact (xu_n (by first | assumption | exact Ne.symm (by assumption) | exact xu_fresh (by assumption) (by assumption) | exact (xu_fresh (by assumption) (by assumption)).symm)).trans (by first | assumption | exact xu_s _ _ _ | exact (xu_n (by first | assumption | exact Ne.symm (by assumption) | exact xu_fresh (by assumption) (by assumption) | exact (xu_fresh (by assumption) (by assumption)).symm)).trans (by first | assumption | exact xu_s _ _ _)))) ?_
  refine x_vret (M := mX14_init) (pc := 31) dX14_init_31 rfl (by first | exact Nat.le_of_ble_eq_true rfl | omega) (by first | exact Nat.le_of_ble_eq_true rfl | omega) ?_
  exact ⟨rfl, rfl⟩
theorem ci_X15 (h : xH) (a d : Nat) (hd : 2 ≤ d) (x0 : Int32) (v0 : Value) (ha : h a = some (.inr (14, [v0]))) : Ct g l mX15_init d 0 0 [.ref a, .int x0] h (fun o h' => o = .inl none ∧ h' = xu h a (.inr (14, [.int x0]))) := by
  refine Ct.of [some (.ref a), some (.int x0)] (by decide +kernel) rfl (Nat.le_of_ble_eq_true rfl) rfl rfl ?_
  refine x_aload_n (M := mX15_init) (pc := 0) dX15_init_0 rfl ?_
  refine x_I0 (M := mX15_init) (pc := 1) (M' := mJ8_init) q1438 kIJ8_init dX15_init_1 (j_recInit h a (d - 1) (by omega)) (fun v_ h hq_ => ?_)
  obtain ⟨hv_, rfl⟩ := hq_; cases hv_
  refine x_aload_n (M := mX15_init) (pc := 4) dX15_init_4 rfl ?_
  refine x_iload_n (M := mX15_init) (pc := 5) dX15_init_5 rfl ?_
  first | refine x_putF0' (M := mX15_init) (pc := 6) kcX15 q1439 dX15_init_6 ?_ | refine x_putF0 (M := mX15_init) (pc := 6) kcX15 q1439 dX15_init_6 (by first | assumption | exact xu_s _ _ _ | exact (xu_n (by first | assumption | exact Ne.symm (by assumption) | exact xu_fresh (by assumption) (by assumption) | exact (xu_fresh (by assumption) (by assumption)).symm)).trans (by first | assumption | exact xu_s _ _ _ | exact (xu_n (by first | assumption | exact Ne.symm (by assumption) | exact xu_fresh (by assumption) (by assumption) | exact (xu_fresh (by assumption) (by assumption)).symm)).trans (by first | assumption | exact xu_s _ _ _ | exact (xu_n (by first | assumption | exact Ne.symm (by assumption) | exact xu_fresh (by assumption) (by assumption) | exact (xu_fresh (by assumption) (by assumption)).symm)).trans (by first | assumption | exact xu_s _ _ _)))) ?_
  refine x_vret (M := mX15_init) (pc := 9) dX15_init_9 rfl (by first | exact Nat.le_of_ble_eq_true rfl | omega) (by first | exact Nat.le_of_ble_eq_true rfl | omega) ?_
  exact ⟨rfl, rfl⟩
theorem ci_X16 (h : xH) (a d : Nat) (hd : 2 ≤ d) (x0 : Int32) (v0 : Value) (ha : h a = some (.inr (15, [v0]))) : Ct g l mX16_init d 0 0 [.ref a, .int x0] h (fun o h' => o = .inl none ∧ h' = xu h a (.inr (15, [.int x0]))) := by
  refine Ct.of [some (.ref a), some (.int x0)] (by decide +kernel) rfl (Nat.le_of_ble_eq_true rfl) rfl rfl ?_
  refine x_aload_n (M := mX16_init) (pc := 0) dX16_init_0 rfl ?_
  refine x_I0 (M := mX16_init) (pc := 1) (M' := mJ8_init) q1452 kIJ8_init dX16_init_1 (j_recInit h a (d - 1) (by omega)) (fun v_ h hq_ => ?_)
  obtain ⟨hv_, rfl⟩ := hq_; cases hv_
  refine x_aload_n (M := mX16_init) (pc := 4) dX16_init_4 rfl ?_
  refine x_iload_n (M := mX16_init) (pc := 5) dX16_init_5 rfl ?_
  first | refine x_putF0' (M := mX16_init) (pc := 6) kcX16 q1453 dX16_init_6 ?_ | refine x_putF0 (M := mX16_init) (pc := 6) kcX16 q1453 dX16_init_6 (by first | assumption | exact xu_s _ _ _ | exact (xu_n (by first | assumption | exact Ne.symm (by assumption) | exact xu_fresh (by assumption) (by assumption) | exact (xu_fresh (by assumption) (by assumption)).symm)).trans (by first | assumption | exact xu_s _ _ _ | exact (xu_n (by first | assumption | exact Ne.symm (by assumption) | exact xu_fresh (by assumption) (by assumption) | exact (xu_fresh (by assumption) (by assumption)).symm)).trans (by first | assumption | exact xu_s _ _ _ | exact (xu_n (by first | assumption | exact Ne.symm (by assumption) | exact xu_fresh (by assumption) (by assumption) | exact (xu_fresh (by assumption) (by assumption)).symm)).trans (by first | assumption | exact xu_s _ _ _)))) ?_
  refine x_vret (M := mX16_init) (pc := 9) dX16_init_9 rfl (by first | exact Nat.le_of_ble_eq_true rfl | omega) (by first | exact Nat.le_of_ble_eq_true rfl | omega) ?_
  exact ⟨rfl, rfl⟩
theorem ci_X17 (h : xH) (a d : Nat) (hd : 2 ≤ d) (x0 : Int32) (v0 : Value) (ha : h a = some (.inr (16, [v0]))) : Ct g l mX17_init d 0 0 [.ref a, .int x0] h (fun o h' => o = .inl none ∧ h' = xu h a (.inr (16, [.int x0]))) := by
  refine Ct.of [some (.ref a), some (.int x0)] (by decide +kernel) rfl (Nat.le_of_ble_eq_true rfl) rfl rfl ?_
  refine x_aload_n (M := mX17_init) (pc := 0) dX17_init_0 rfl ?_
  refine x_I0 (M := mX17_init) (pc := 1) (M' := mJ8_init) q1466 kIJ8_init dX17_init_1 (j_recInit h a (d - 1) (by omega)) (fun v_ h hq_ => ?_)
  obtain ⟨hv_, rfl⟩ := hq_; cases hv_
  refine x_aload_n (M := mX17_init) (pc := 4) dX17_init_4 rfl ?_
  refine x_iload_n (M := mX17_init) (pc := 5) dX17_init_5 rfl ?_
  first | refine x_putF0' (M := mX17_init) (pc := 6) kcX17 q1467 dX17_init_6 ?_ | refine x_putF0 (M := mX17_init) (pc := 6) kcX17 q1467 dX17_init_6 (by first | assumption | exact xu_s _ _ _ | exact (xu_n (by first | assumption | exact Ne.symm (by assumption) | exact xu_fresh (by assumption) (by assumption) | exact (xu_fresh (by assumption) (by assumption)).symm)).trans (by first | assumption | exact xu_s _ _ _ | exact (xu_n (by first | assumption | exact Ne.symm (by assumption) | exact xu_fresh (by assumption) (by assumption) | exact (xu_fresh (by assumption) (by assumption)).symm)).trans (by first | assumption | exact xu_s _ _ _ | exact (xu_n (by first | assumption | exact Ne.symm (by assumption) | exact xu_fresh (by assumption) (by assumption) | exact (xu_fresh (by assumption) (by assumption)).symm)).trans (by first | assumption | exact xu_s _ _ _)))) ?_
  refine x_vret (M := mX17_init) (pc := 9) dX17_init_9 rfl (by first | exact Nat.le_of_ble_eq_true rfl | omega) (by first | exact Nat.le_of_ble_eq_true rfl | omega) ?_
  exact ⟨rfl, rfl⟩
theorem ci_X18 (h : xH) (a d : Nat) (hd : 2 ≤ d) (x0 : Int32) (v0 : Value) (ha : h a = some (.inr (17, [v0]))) : Ct g l mX18_init d 0 0 [.ref a, .int x0] h (fun o h' => o = .inl none ∧ h' = xu h a (.inr (17, [.int x0]))) := by
  refine Ct.of [some (.ref a), some (.int x0)] (by decide +kernel) rfl (Nat.le_of_ble_eq_true rfl) rfl rfl ?_
  refine x_aload_n (M := mX18_init) (pc := 0) dX18_init_0 rfl ?_
  refine x_I0 (M := mX18_init) (pc := 1) (M' := mJ8_init) q1480 kIJ8_init dX18_init_1 (j_recInit h a (d - 1) (by omega)) (fun v_ h hq_ => ?_)
  obtain ⟨hv_, rfl⟩ := hq_; cases hv_
  refine x_aload_n (M := mX18_init) (pc := 4) dX18_init_4 rfl ?_
  refine x_iload_n (M := mX18_init) (pc := 5) dX18_init_5 rfl ?_
  first | refine x_putF0' (M := mX18_init) (pc := 6) kcX18 q1481 dX18_init_6 ?_ | refine x_putF0 (M := mX18_init) (pc := 6) kcX18 q1481 dX18_init_6 (by first | assumption | exact xu_s _ _ _ | exact (xu_n (by first | assumption | exact Ne.symm (by assumption) | exact xu_fresh (by assumption) (by assumption) | exact (xu_fresh (by assumption) (by assumption)).symm)).trans (by first | assumption | exact xu_s _ _ _ | exact (xu_n (by first | assumption | exact Ne.symm (by assumption) | exact xu_fresh (by assumption) (by assumption) | exact (xu_fresh (by assumption) (by assumption)).symm)).trans (by first | assumption | exact xu_s _ _ _ | exact (xu_n (by first | assumption | exact Ne.symm (by assumption) | exact xu_fresh (by assumption) (by assumption) | exact (xu_fresh (by assumption) (by assumption)).symm)).trans (by first | assumption | exact xu_s _ _ _)))) ?_
  refine x_vret (M := mX18_init) (pc := 9) dX18_init_9 rfl (by first | exact Nat.le_of_ble_eq_true rfl | omega) (by first | exact Nat.le_of_ble_eq_true rfl | omega) ?_
  exact ⟨rfl, rfl⟩
theorem ci_X19 (h : xH) (a d : Nat) (hd : 2 ≤ d) (x0 : Int32) (v0 : Value) (ha : h a = some (.inr (18, [v0]))) : Ct g l mX19_init d 0 0 [.ref a, .int x0] h (fun o h' => o = .inl none ∧ h' = xu h a (.inr (18, [.int x0]))) := by
  refine Ct.of [some (.ref a), some (.int x0)] (by decide +kernel) rfl (Nat.le_of_ble_eq_true rfl) rfl rfl ?_
  refine x_aload_n (M := mX19_init) (pc := 0) dX19_init_0 rfl ?_
  refine x_I0 (M := mX19_init) (pc := 1) (M' := mJ8_init) q1494 kIJ8_init dX19_init_1 (j_recInit h a (d - 1) (by omega)) (fun v_ h hq_ => ?_)
  obtain ⟨hv_, rfl⟩ := hq_; cases hv_
  refine x_aload_n (M := mX19_init) (pc := 4) dX19_init_4 rfl ?_
  refine x_iload_n (M := mX19_init) (pc := 5) dX19_init_5 rfl ?_
  first | refine x_putF0' (M := mX19_init) (pc := 6) kcX19 q1495 dX19_init_6 ?_ | refine x_putF0 (M := mX19_init) (pc := 6) kcX19 q1495 dX19_init_6 (by first | assumption | exact xu_s _ _ _ | exact (xu_n (by first | assumption | exact Ne.symm (by assumption) | exact xu_fresh (by assumption) (by assumption) | exact (xu_fresh (by assumption) (by assumption)).symm)).trans (by first | assumption | exact xu_s _ _ _ | exact (xu_n (by first | assumption | exact Ne.symm (by assumption) | exact xu_fresh (by assumption) (by assumption) | exact (xu_fresh (by assumption) (by assumption)).symm)).trans (by first | assumption | exact xu_s _ _ _ | exact (xu_n (by first | assumption | exact Ne.symm (by assumption) | exact xu_fresh (by assumption) (by assumption) | exact (xu_fresh (by assumption) (by assumption)).symm)).trans (by first | assumption | exact xu_s _ _ _)))) ?_
  refine x_vret (M := mX19_init) (pc := 9) dX19_init_9 rfl (by first | exact Nat.le_of_ble_eq_true rfl | omega) (by first | exact Nat.le_of_ble_eq_true rfl | omega) ?_
  exact ⟨rfl, rfl⟩
theorem ci_X20 (h : xH) (a d : Nat) (hd : 2 ≤ d) (x0 x1 x2 : Int32) (v0 v1 v2 : Value) (ha : h a = some (.inr (19, [v0, v1, v2]))) : Ct g l mX20_init d 0 0 [.ref a, .int x0, .int x1, .int x2] h (fun o h' => o = .inl none ∧ h' = xu h a (.inr (19, [.int x0, .int x1, .int x2]))) := by
  refine Ct.of [some (.ref a), some (.int x0), some (.int x1), some (.int x2)] (by decide +kernel) rfl (Nat.le_of_ble_eq_true rfl) rfl rfl ?_
  refine x_aload_n (M := mX20_init) (pc := 0) dX20_init_0 rfl ?_
  refine x_I0 (M := mX20_init) (pc := 1) (M' := mJ8_init) q1508 kIJ8_init dX20_init_1 (j_recInit h a (d - 1) (by omega)) (fun v_ h hq_ => ?_)
  obtain ⟨hv_, rfl⟩ := hq_; cases hv_
  refine x_aload_n (M := mX20_init) (pc := 4) dX20_init_4 rfl ?_
  refine x_iload_n (M := mX20_init) (pc := 5) dX20_init_5 rfl ?_
  first | refine x_putF0' (M := mX20_init) (pc := 6) kcX20 q1509 dX20_init_6 ?_ | refine x_putF0 (M := mX20_init) (pc := 6) kcX20 q1509 dX20_init_6 (by first | assumption | exact xu_s _ _ _ | exact (xu_n (by first | assumption | exact Ne.symm (by assumption) | exact xu_fresh (by assumption) (by assumption) | exact (xu_fresh (by assumption) (by assumption)).symm)).trans (by first | assumption | exact xu_s _ _ _ | exact (xu_n (by first | assumption | exact Ne.symm (by assumption) | exact xu_fresh (by assumption) (by assumption) | exact (xu_fresh (by assumption) (by assumption)).symm)).trans (by first | assumption | exact xu_s _ _ _ | exact (xu_n (by first | assumption | exact Ne.symm (by assumption) | exact xu_fresh (by assumption) (by assumption) | exact (xu_fresh (by assumption) (by assumption)).symm)).trans (by first | assumption | exact xu_s _ _ _)))) ?_
  refine x_aload_n (M := mX20_init) (pc := 9) dX20_init_9 rfl ?_
  refine x_iload_n (M := mX20_init) (pc := 10) dX20_init_10 rfl ?_
  first | refine x_putF1' (M := mX20_init) (pc := 11) kcX20 q1510 dX20_init_11 ?_ | refine x_putF1 (M := mX20_init) (pc := 11) kcX20 q1510 dX20_init_11 (by first | assumption | exact xu_s _ _ _ | exact (xu_n (by first | assumption | exact Ne.symm (by assumption) | exact xu_fresh (by assumption) (by assumption) | exact (xu_fresh (by assumption) (by assumption)).symm)).trans (by first | assumption | exact xu_s _ _ _ | exact (xu_n (by first | assumption | exact Ne.symm (by assumption) | exact xu_fresh (by assumption) (by assumption) | exact (xu_fresh (by assumption) (by assumption)).symm)).trans (by first | assumption | exact xu_s _ _ _ | exact (xu_n (by first | assumption | exact Ne.symm (by assumption) | exact xu_fresh (by assumption) (by assumption) | exact (xu_fresh (by assumption) (by assumption)).symm)).trans (by first | assumption | exact xu_s _ _ _)))) ?_
  refine x_aload_n (M := mX20_init) (pc := 14) dX20_init_14 rfl ?_
  refine x_iload_n (M := mX20_init) (pc := 15) dX20_init_15 rfl ?_
  first | refine x_putF2' (M := mX20_init) (pc := 16) kcX20 q1511 dX20_init_16 ?_ | refine x_putF2 (M := mX20_init) (pc := 16) kcX20 q1511 dX20_init_16 (by first | assumption | exact xu_s _ _ _ | exact (xu_n (by first | assumption | exact Ne.symm (by assumption) | exact xu_fresh (by assumption) (by assumption) | exact (xu_fresh (by assumption) (by assumption)).symm)).trans (by first | assumption | exact xu_s _ _ _ | exact (xu_n (by first | assumption | exact Ne.symm (by assumption) | exact xu_fresh (by assumption) (by assumption) | exact (xu_fresh (by assumption) (by assumption)).symm)).trans (by first | assumption | exact xu_s _ _ _ | exact (xu_n (by first | assumption | exact Ne.symm (by assumption) | exact xu_fresh (by assumption) (by assumption) | exact (xu_fresh (by assumption) (by assumption)).symm)).trans (by first | assumption | exact xu_s _ _ _)))) ?_
  refine x_vret (M := mX20_init) (pc := 19) dX20_init_19 rfl (by first | exact Nat.le_of_ble_eq_true rfl | omega) (by first | exact Nat.le_of_ble_eq_true rfl | omega) ?_
  exact ⟨rfl, rfl⟩
theorem ci_X21 (h : xH) (a d : Nat) (hd : 2 ≤ d) : Ct g l mX21_init d 0 0 [.ref a] h (fun o h' => o = .inl none ∧ h' = h) := by
  refine Ct.of [some (.ref a)] (by decide +kernel) rfl (Nat.le_of_ble_eq_true rfl) rfl rfl ?_
  refine x_aload_n (M := mX21_init) (pc := 0) dX21_init_0 rfl ?_
  refine x_I0 (M := mX21_init) (pc := 1) (M' := mJ8_init) q1528 kIJ8_init dX21_init_1 (j_recInit h a (d - 1) (by omega)) (fun v_ h hq_ => ?_)
  obtain ⟨hv_, rfl⟩ := hq_; cases hv_
  refine x_vret (M := mX21_init) (pc := 4) dX21_init_4 rfl (by first | exact Nat.le_of_ble_eq_true rfl | omega) (by first | exact Nat.le_of_ble_eq_true rfl | omega) ?_
  exact ⟨rfl, rfl⟩
theorem ci_X22 (h : xH) (a d : Nat) (hd : 2 ≤ d) (x0 x1 x2 x3 : Int32) (v0 v1 v2 v3 : Value) (ha : h a = some (.inr (20, [v0, v1, v2, v3]))) : Ct g l mX22_init d 0 0 [.ref a, .int x0, .int x1, .int x2, .int x3] h (fun o h' => o = .inl none ∧ h' = xu h a (.inr (20, [.int x0, .int x1, .int x2, .int x3]))) := by
  refine Ct.of [some (.ref a), some (.int x0), some (.int x1), some (.int x2), some (.int x3)] (by decide +kernel) rfl (Nat.le_of_ble_eq_true rfl) rfl rfl ?_
  refine x_aload_n (M := mX22_init) (pc := 0) dX22_init_0 rfl ?_
  refine x_I0 (M := mX22_init) (pc := 1) (M' := mJ8_init) q1539 kIJ8_init dX22_init_1 (j_recInit h a (d - 1) (by omega)) (fun v_ h hq_ => ?_)
  obtain ⟨hv_, rfl⟩ := hq_; cases hv_
  refine x_aload_n (M := mX22_init) (pc := 4) dX22_init_4 rfl ?_
  refine x_iload_n (M := mX22_init) (pc := 5) dX22_init_5 rfl ?_
  first | refine x_putF0' (M := mX22_init) (pc := 6) kcX22 q1540 dX22_init_6 ?_ | refine x_putF0 (M := mX22_init) (pc := 6) kcX22 q1540 dX22_init_6 (by first | assumption | exact xu_s _ _ _ | exact (xu_n (by first | assumption | exact Ne.symm (by assumption) | exact xu_fresh (by assumption) (by assumption) | exact (xu_fresh (by assumption) (by assumption)).symm)).trans (by first | assumption | exact xu_s _ _ _ | exact (xu_n (by first | assumption | exact Ne.symm (by assumption) | exact xu_fresh (by assumption) (by assumption) | exact (xu_fresh (by assumption) (by assumption)).symm)).trans (by first | assumption | exact xu_s _ _ _ | exact (xu_n (by first | assumption | exact Ne.symm (by assumption) | exact xu_fresh (by assumption) (by assumption) | exact (xu_fresh (by assumption) (by assumption)).symm)).trans (by first | assumption | exact xu_s _ _ _)))) ?_
  refine x_aload_n (M := mX22_init) (pc := 9) dX22_init_9 rfl ?_
  refine x_iload_n (M := mX22_init) (pc := 10) dX22_init_10 rfl ?_
  first | refine x_putF1' (M := mX22_init) (pc := 11) kcX22 q1541 dX22_init_11 ?_ | refine x_putF1 (M := mX22_init) (pc := 11) kcX22 q1541 dX22_init_11 (by first | assumption | exact xu_s _ _ _ | exact (xu_n (by first | assumption | exact Ne.symm (by assumption) | exact xu_fresh (by assumption) (by assumption) | exact (xu_fresh (by assumption) (by assumption)).symm)).trans (by first | assumption | exact xu_s _ _ _ | exact (xu_n (by first | assumption | exact Ne.symm (by assumption) | exact xu_fresh (by assumption) (by assumption) | exact (xu_fresh (by assumption) (by assumption)).symm)).trans (by first | assumption | exact xu_s _ _ _ | exact (xu_n (by first | assumption | exact Ne.symm (by assumption) | exact xu_fresh (by assumption) (by assumption) | exact (xu_fresh (by assumption) (by assumption)).symm)).trans (by first | assumption | exact xu_s _ _ _)))) ?_
  refine x_aload_n (M := mX22_init) (pc := 14) dX22_init_14 rfl ?_
  refine x_iload_n (M := mX22_init) (pc := 15) dX22_init_15 rfl ?_
  first | refine x_putF2' (M := mX22_init) (pc := 16) kcX22 q1542 dX22_init_16 ?_ | refine x_putF2 (M := mX22_init) (pc := 16) kcX22 q1542 dX22_init_16 (by first | assumption | exact xu_s _ _ _ | exact (xu_n (by first | assumption | exact Ne.symm (by assumption) | exact xu_fresh (by assumption) (by assumption) | exact (xu_fresh (by assumption) (by assumption)).symm)).trans (by first | assumption | exact xu_s _ _ _ | exact (xu_n (by first | assumption | exact Ne.symm (by assumption) | exact xu_fresh (by assumption) (by assumption) | exact (xu_fresh (by assumption) (by assumption)).symm)).trans (by first | assumption | exact xu_s _ _ _ | exact (xu_n (by first | assumption | exact Ne.symm (by assumption) | exact xu_fresh (by assumption) (by assumption) | exact (xu_fresh (by assumption) (by assumption)).symm)).trans (by first | assumption | exact xu_s _ _ _)))) ?_
  refine x_aload_n (M := mX22_init) (pc := 19) dX22_init_19 rfl ?_
  refine x_iload (M := mX22_init) (pc := 20) dX22_init_20 rfl ?_
  first | refine x_putF3' (M := mX22_init) (pc := 22) kcX22 q1543 dX22_init_22 ?_ | refine x_putF3 (M := mX22_init) (pc := 22) kcX22 q1543 dX22_init_22 (by first | assumption | exact xu_s _ _ _ | exact (xu_n (by first | assumption | exact Ne.symm (by assumption) | exact xu_fresh (by assumption) (by assumption) | exact (xu_fresh (by assumption) (by assumption)).symm)).trans (by first | assumption | exact xu_s _ _ _ | exact (xu_n (by first | assumption | exact Ne.symm (by assumption) | exact xu_fresh (by assumption) (by assumption) | exact (xu_fresh (by assumption) (by assumption)).symm)).trans (by first | assumption | exact xu_s _ _ _ | exact (xu_n (by first | assumption | exact Ne.symm (by assumption) | exact xu_fresh (by assumption) (by assumption) | exact (xu_fresh (by assumption) (by assumption)).symm)).trans (by first | assumption | exact xu_s _ _ _)))) ?_
  refine x_vret (M := mX22_init) (pc := 25) dX22_init_25 rfl (by first | exact Nat.le_of_ble_eq_true rfl | omega) (by first | exact Nat.le_of_ble_eq_true rfl | omega) ?_
  exact ⟨rfl, rfl⟩
theorem ci_X23 (h : xH) (a d : Nat) (hd : 2 ≤ d) (x0 : Int32) (v0 : Value) (ha : h a = some (.inr (21, [v0]))) : Ct g l mX23_init d 0 0 [.ref a, .int x0] h (fun o h' => o = .inl none ∧ h' = xu h a (.inr (21, [.int x0]))) := by
  refine Ct.of [some (.ref a), some (.int x0)] (by decide +kernel) rfl (Nat.le_of_ble_eq_true rfl) rfl rfl ?_
  refine x_aload_n (M := mX23_init) (pc := 0) dX23_init_0 rfl ?_
  refine x_I0 (M := mX23_init) (pc := 1) (M' := mJ8_init) q1562 kIJ8_init dX23_init_1 (j_recInit h a (d - 1) (by omega)) (fun v_ h hq_ => ?_)
  obtain ⟨hv_, rfl⟩ := hq_; cases hv_
  refine x_aload_n (M := mX23_init) (pc := 4) dX23_init_4 rfl ?_
  refine x_iload_n (M := mX23_init) (pc := 5) dX23_init_5 rfl ?_
  first | refine x_putF0' (M := mX23_init) (pc := 6) kcX23 q1563 dX23_init_6 ?_ | refine x_putF0 (M := mX23_init) (pc := 6) kcX23 q1563 dX23_init_6 (by first | assumption | exact xu_s _ _ _ | exact (xu_n (by first | assumption | exact Ne.symm (by assumption) | exact xu_fresh (by assumption) (by assumption) | exact (xu_fresh (by assumption) (by assumption)).symm)).trans (by first | assumption | exact xu_s _ _ _ | exact (xu_n (by first | assumption | exact Ne.symm (by assumption) | exact xu_fresh (by assumption) (by assumption) | exact (xu_fresh (by assumption) (by assumption)).symm)).trans (by first | assumption | exact xu_s _ _ _ | exact (xu_n (by first | assumption | exact Ne.symm (by assumption) | exact xu_fresh (by assumption) (by assumption) | exact (xu_fresh (by assumption) (by assumption)).symm)).trans (by first | assumption | exact xu_s _ _ _)))) ?_
  refine x_vret (M := mX23_init) (pc := 9) dX23_init_9 rfl (by first | exact Nat.le_of_ble_eq_true rfl | omega) (by first | exact Nat.le_of_ble_eq_true rfl | omega) ?_
  exact ⟨rfl, rfl⟩
theorem ci_X24 (h : xH) (a d : Nat) (hd : 2 ≤ d) (x0 : Int32) (v0 : Value) (ha : h a = some (.inr (22, [v0]))) : Ct g l mX24_init d 0 0 [.ref a, .int x0] h (fun o h' => o = .inl none ∧ h' = xu h a (.inr (22, [.int x0]))) := by
  refine Ct.of [some (.ref a), some (.int x0)] (by decide +kernel) rfl (Nat.le_of_ble_eq_true rfl) rfl rfl ?_
  refine x_aload_n (M := mX24_init) (pc := 0) dX24_init_0 rfl ?_
  refine x_I0 (M := mX24_init) (pc := 1) (M' := mJ8_init) q1576 kIJ8_init dX24_init_1 (j_recInit h a (d - 1) (by omega)) (fun v_ h hq_ => ?_)
  obtain ⟨hv_, rfl⟩ := hq_; cases hv_
  refine x_aload_n (M := mX24_init) (pc := 4) dX24_init_4 rfl ?_
  refine x_iload_n (M := mX24_init) (pc := 5) dX24_init_5 rfl ?_
  first | refine x_putF0' (M := mX24_init) (pc := 6) kcX24 q1577 dX24_init_6 ?_ | refine x_putF0 (M := mX24_init) (pc := 6) kcX24 q1577 dX24_init_6 (by first | assumption | exact xu_s _ _ _ | exact (xu_n (by first | assumption | exact Ne.symm (by assumption) | exact xu_fresh (by assumption) (by assumption) | exact (xu_fresh (by assumption) (by assumption)).symm)).trans (by first | assumption | exact xu_s _ _ _ | exact (xu_n (by first | assumption | exact Ne.symm (by assumption) | exact xu_fresh (by assumption) (by assumption) | exact (xu_fresh (by assumption) (by assumption)).symm)).trans (by first | assumption | exact xu_s _ _ _ | exact (xu_n (by first | assumption | exact Ne.symm (by assumption) | exact xu_fresh (by assumption) (by assumption) | exact (xu_fresh (by assumption) (by assumption)).symm)).trans (by first | assumption | exact xu_s _ _ _)))) ?_
  refine x_vret (M := mX24_init) (pc := 9) dX24_init_9 rfl (by first | exact Nat.le_of_ble_eq_true rfl | omega) (by first | exact Nat.le_of_ble_eq_true rfl | omega) ?_
  exact ⟨rfl, rfl⟩
theorem pb_setSheet (hh : xH) (ow : Nat → Option Nat) (cb dq arr hd sb tb len m d : Nat) (hd17 : 17 ≤ d) (tx : Nat → Nat) (x : HE) (hs : List HE) (x0 x1 : Int32) (hS : ST g hh ow cb dq arr hd sb tb len tx x hs) (hm1 : m ≠ dq) (hm2 : m ≠ x.2.1) : Ct g l mX0_setSheet d 240 900 [.ref cb, .int x0, .int x1] hh (PF g hh ow cb dq arr sb tb len m tx x hs (c_setSheet x.2.2 x0 x1)) := by
  have hcb := hS.1
  refine Ct.of [some (.ref cb), some (.int x0), some (.int x1)] (by decide +kernel) rfl (Nat.le_of_ble_eq_true rfl) rfl rfl ?_
  refine x_cst (M := mX0_setSheet) (pc := 0) (fun _ _ _ hx0 => ?_)
  refine x_aload_n (M := mX0_setSheet) (pc := 0) dX0_setSheet_0 rfl ?_
  refine x_new (M := mX0_setSheet) (pc := 1) kcX4 q382 dX0_setSheet_1 (by first | exact Nat.le_of_ble_eq_true rfl | omega) (by first | exact Nat.le_of_ble_eq_true rfl | omega) (fun q1_ hq1_ hb1_ => ?_)
  (try simp only [xu_noneI] at hq1_)
  repeat (obtain ⟨_, hq1_⟩ : _ ∧ _ := hq1_)
  refine x_dup (M := mX0_setSheet) (pc := 4) dX0_setSheet_4 ?_
  refine x_iload_n (M := mX0_setSheet) (pc := 5) dX0_setSheet_5 rfl ?_
  refine x_iload_n (M := mX0_setSheet) (pc := 6) dX0_setSheet_6 rfl ?_
  refine x_IN2 (M := mX0_setSheet) (pc := 7) (M' := mX4_init) q384 kIX4_init dX0_setSheet_7 (ci_X4 _ q1_ (d - 1) (by omega) x0 x1 _ _ (xu_s _ _ _)) (fun v_ h2 hq_ => ?_)
  obtain ⟨hv_, he_⟩ := hq_; cases hv_; rw [xu_xu] at he_; subst he_
  have hS1 := hS.le hx0 (xle.fr (e := cmE 0 (fun i => match i with | 0 => x0 | 1 => x1 | _ => 0)) hq1_)
  refine x_V1 (M := mX0_setSheet) (pc := 10) (M' := mX0_perform) q398 kVX0_perform dX0_setSheet_10 (c_perform _ ow cb dq arr hd sb tb len m 0 q1_ (d - 1) (by omega) tx x hs (fun i => match i with | 0 => x0 | 1 => x1 | _ => 0) (by omega) hS1 (xu_s _ _ _) hm1 hm2) (xIs.of kcX0 hS1.1) (fun v_ h2 hq_ => ?_) (hno := fun _ _ => PF.no)
  replace hq_ := hq_.pre (xle.fr hq1_)
  change PF g hh ow cb dq arr sb tb len m tx x hs (c_setSheet x.2.2 x0 x1) _ _ at hq_
  revert hq_
  cases hr : c_setSheet x.2.2 x0 x1 with
  | inl e => intro hq_; have hv_ := hq_.1; cases hv_; exact x_iret (M := mX0_setSheet) (pc := 13) dX0_setSheet_13 rfl (by omega) (by omega) hq_
  | inr r => intro hq_; have hv_ := hq_.1; cases hv_; exact x_iret (M := mX0_setSheet) (pc := 13) dX0_setSheet_13 rfl (by omega) (by omega) hq_
theorem pb_fold (hh : xH) (ow : Nat → Option Nat) (cb dq arr hd sb tb len m d : Nat) (hd17 : 17 ≤ d) (tx : Nat → Nat) (x : HE) (hs : List HE) (x0 : Int32) (hS : ST g hh ow cb dq arr hd sb tb len tx x hs) (hm1 : m ≠ dq) (hm2 : m ≠ x.2.1) : Ct g l mX0_fold d 240 900 [.ref cb, .int x0] hh (PF g hh ow cb dq arr sb tb len m tx x hs (c_fold x.2.2 x0)) := by
  have hcb := hS.1
  refine Ct.of [some (.ref cb), some (.int x0)] (by decide +kernel) rfl (Nat.le_of_ble_eq_true rfl) rfl rfl ?_
  refine x_cst (M := mX0_fold) (pc := 0) (fun _ _ _ hx0 => ?_)
  refine x_aload_n (M := mX0_fold) (pc := 0) dX0_fold_0 rfl ?_
  refine x_new (M := mX0_fold) (pc := 1) kcX11 q1368 dX0_fold_1 (by first | exact Nat.le_of_ble_eq_true rfl | omega) (by first | exact Nat.le_of_ble_eq_true rfl | omega) (fun q1_ hq1_ hb1_ => ?_)
  (try simp only [xu_noneI] at hq1_)
  repeat (obtain ⟨_, hq1_⟩ : _ ∧ _ := hq1_)
  refine x_dup (M := mX0_fold) (pc := 4) dX0_fold_4 ?_
  refine x_iload_n (M := mX0_fold) (pc := 5) dX0_fold_5 rfl ?_
  refine x_IN1 (M := mX0_fold) (pc := 6) (M' := mX11_init) q1370 kIX11_init dX0_fold_6 (ci_X11 _ q1_ (d - 1) (by omega) x0 _ (xu_s _ _ _)) (fun v_ h2 hq_ => ?_)
  obtain ⟨hv_, he_⟩ := hq_; cases hv_; rw [xu_xu] at he_; subst he_
  have hS1 := hS.le hx0 (xle.fr (e := cmE 1 (fun i => match i with | 0 => x0 | _ => 0)) hq1_)
  refine x_V1 (M := mX0_fold) (pc := 9) (M' := mX0_perform) q398 kVX0_perform dX0_fold_9 (c_perform _ ow cb dq arr hd sb tb len m 1 q1_ (d - 1) (by omega) tx x hs (fun i => match i with | 0 => x0 | _ => 0) (by omega) hS1 (xu_s _ _ _) hm1 hm2) (xIs.of kcX0 hS1.1) (fun v_ h2 hq_ => ?_) (hno := fun _ _ => PF.no)
  replace hq_ := hq_.pre (xle.fr hq1_)
  change PF g hh ow cb dq arr sb tb len m tx x hs (c_fold x.2.2 x0) _ _ at hq_
  revert hq_
  cases hr : c_fold x.2.2 x0 with
  | inl e => intro hq_; have hv_ := hq_.1; cases hv_; exact x_iret (M := mX0_fold) (pc := 12) dX0_fold_12 rfl (by omega) (by omega) hq_
  | inr r => intro hq_; have hv_ := hq_.1; cases hv_; exact x_iret (M := mX0_fold) (pc := 12) dX0_fold_12 rfl (by omega) (by omega) hq_
theorem pb_unfold (hh : xH) (ow : Nat → Option Nat) (cb dq arr hd sb tb len m d : Nat) (hd17 : 17 ≤ d) (tx : Nat → Nat) (x : HE) (hs : List HE) (hS : ST g hh ow cb dq arr hd sb tb len tx x hs) (hm1 : m ≠ dq) (hm2 : m ≠ x.2.1) : Ct g l mX0_unfold d 240 900 [.ref cb] hh (PF g hh ow cb dq arr sb tb len m tx x hs (c_unfold x.2.2 )) := by
  have hcb := hS.1
  refine Ct.of [some (.ref cb)] (by decide +kernel) rfl (Nat.le_of_ble_eq_true rfl) rfl rfl ?_
  refine x_cst (M := mX0_unfold) (pc := 0) (fun _ _ _ hx0 => ?_)
  refine x_aload_n (M := mX0_unfold) (pc := 0) dX0_unfold_0 rfl ?_
  refine x_new (M := mX0_unfold) (pc := 1) kcX12 q1382 dX0_unfold_1 (by first | exact Nat.le_of_ble_eq_true rfl | omega) (by first | exact Nat.le_of_ble_eq_true rfl | omega) (fun q1_ hq1_ hb1_ => ?_)
  (try simp only [xu_noneI] at hq1_)
  repeat (obtain ⟨_, hq1_⟩ : _ ∧ _ := hq1_)
  refine x_dup (M := mX0_unfold) (pc := 4) dX0_unfold_4 ?_
  refine x_IN0 (M := mX0_unfold) (pc := 5) (M' := mX12_init) q1384 kIX12_init dX0_unfold_5 (ci_X12 _ q1_ (d - 1) (by omega)) (fun v_ h2 hq_ => ?_)
  obtain ⟨hv_, he_⟩ := hq_; cases hv_; subst he_
  have hS1 := hS.le hx0 (xle.fr (e := cmE 2 (fun _ => 0)) hq1_)
  refine x_V1 (M := mX0_unfold) (pc := 8) (M' := mX0_perform) q398 kVX0_perform dX0_unfold_8 (c_perform _ ow cb dq arr hd sb tb len m 2 q1_ (d - 1) (by omega) tx x hs (fun _ => 0) (by omega) hS1 (xu_s _ _ _) hm1 hm2) (xIs.of kcX0 hS1.1) (fun v_ h2 hq_ => ?_) (hno := fun _ _ => PF.no)
  replace hq_ := hq_.pre (xle.fr hq1_)
  change PF g hh ow cb dq arr sb tb len m tx x hs (c_unfold x.2.2 ) _ _ at hq_
  revert hq_
  cases hr : c_unfold x.2.2  with
  | inl e => intro hq_; have hv_ := hq_.1; cases hv_; exact x_iret (M := mX0_unfold) (pc := 11) dX0_unfold_11 rfl (by omega) (by omega) hq_
  | inr r => intro hq_; have hv_ := hq_.1; cases hv_; exact x_iret (M := mX0_unfold) (pc := 11) dX0_unfold_11 rfl (by omega) (by omega) hq_
theorem pb_setSpine (hh : xH) (ow : Nat → Option Nat) (cb dq arr hd sb tb len m d : Nat) (hd17 : 17 ≤ d) (tx : Nat → Nat) (x : HE) (hs : List HE) (x0 : Int32) (hS : ST g hh ow cb dq arr hd sb tb len tx x hs) (hm1 : m ≠ dq) (hm2 : m ≠ x.2.1) : Ct g l mX0_setSpine d 240 900 [.ref cb, .int x0] hh (PF g hh ow cb dq arr sb tb len m tx x hs (c_setSpine x.2.2 x0)) := by
  have hcb := hS.1
  refine Ct.of [some (.ref cb), some (.int x0)] (by decide +kernel) rfl (Nat.le_of_ble_eq_true rfl) rfl rfl ?_
  refine x_cst (M := mX0_setSpine) (pc := 0) (fun _ _ _ hx0 => ?_)
  refine x_aload_n (M := mX0_setSpine) (pc := 0) dX0_setSpine_0 rfl ?_
  refine x_new (M := mX0_setSpine) (pc := 1) kcX13 q1393 dX0_setSpine_1 (by first | exact Nat.le_of_ble_eq_true rfl | omega) (by first | exact Nat.le_of_ble_eq_true rfl | omega) (fun q1_ hq1_ hb1_ => ?_)
  (try simp only [xu_noneI] at hq1_)
  repeat (obtain ⟨_, hq1_⟩ : _ ∧ _ := hq1_)
  refine x_dup (M := mX0_setSpine) (pc := 4) dX0_setSpine_4 ?_
  refine x_iload_n (M := mX0_setSpine) (pc := 5) dX0_setSpine_5 rfl ?_
  refine x_IN1 (M := mX0_setSpine) (pc := 6) (M' := mX13_init) q1395 kIX13_init dX0_setSpine_6 (ci_X13 _ q1_ (d - 1) (by omega) x0 _ (xu_s _ _ _)) (fun v_ h2 hq_ => ?_)
  obtain ⟨hv_, he_⟩ := hq_; cases hv_; rw [xu_xu] at he_; subst he_
  have hS1 := hS.le hx0 (xle.fr (e := cmE 3 (fun i => match i with | 0 => x0 | _ => 0)) hq1_)
  refine x_V1 (M := mX0_setSpine) (pc := 9) (M' := mX0_perform) q398 kVX0_perform dX0_setSpine_9 (c_perform _ ow cb dq arr hd sb tb len m 3 q1_ (d - 1) (by omega) tx x hs (fun i => match i with | 0 => x0 | _ => 0) (by omega) hS1 (xu_s _ _ _) hm1 hm2) (xIs.of kcX0 hS1.1) (fun v_ h2 hq_ => ?_) (hno := fun _ _ => PF.no)
  replace hq_ := hq_.pre (xle.fr hq1_)
  change PF g hh ow cb dq arr sb tb len m tx x hs (c_setSpine x.2.2 x0) _ _ at hq_
  revert hq_
  cases hr : c_setSpine x.2.2 x0 with
  | inl e => intro hq_; have hv_ := hq_.1; cases hv_; exact x_iret (M := mX0_setSpine) (pc := 12) dX0_setSpine_12 rfl (by omega) (by omega) hq_
  | inr r => intro hq_; have hv_ := hq_.1; cases hv_; exact x_iret (M := mX0_setSpine) (pc := 12) dX0_setSpine_12 rfl (by omega) (by omega) hq_
theorem pb_print (hh : xH) (ow : Nat → Option Nat) (cb dq arr hd sb tb len m d : Nat) (hd17 : 17 ≤ d) (tx : Nat → Nat) (x : HE) (hs : List HE) (x0 x1 x2 x3 x4 : Int32) (hS : ST g hh ow cb dq arr hd sb tb len tx x hs) (hm1 : m ≠ dq) (hm2 : m ≠ x.2.1) : Ct g l mX0_print d 240 900 [.ref cb, .int x0, .int x1, .int x2, .int x3, .int x4] hh (PF g hh ow cb dq arr sb tb len m tx x hs (c_print x.2.2 x0 x1 x2 x3 x4)) := by
  have hcb := hS.1
  refine Ct.of [some (.ref cb), some (.int x0), some (.int x1), some (.int x2), some (.int x3), some (.int x4)] (by decide +kernel) rfl (Nat.le_of_ble_eq_true rfl) rfl rfl ?_
  refine x_cst (M := mX0_print) (pc := 0) (fun _ _ _ hx0 => ?_)
  refine x_aload_n (M := mX0_print) (pc := 0) dX0_print_0 rfl ?_
  refine x_new (M := mX0_print) (pc := 1) kcX14 q1407 dX0_print_1 (by first | exact Nat.le_of_ble_eq_true rfl | omega) (by first | exact Nat.le_of_ble_eq_true rfl | omega) (fun q1_ hq1_ hb1_ => ?_)
  (try simp only [xu_noneI] at hq1_)
  repeat (obtain ⟨_, hq1_⟩ : _ ∧ _ := hq1_)
  refine x_dup (M := mX0_print) (pc := 4) dX0_print_4 ?_
  refine x_iload_n (M := mX0_print) (pc := 5) dX0_print_5 rfl ?_
  refine x_iload_n (M := mX0_print) (pc := 6) dX0_print_6 rfl ?_
  refine x_iload_n (M := mX0_print) (pc := 7) dX0_print_7 rfl ?_
  refine x_iload (M := mX0_print) (pc := 8) dX0_print_8 rfl ?_
  refine x_iload (M := mX0_print) (pc := 10) dX0_print_10 rfl ?_
  refine x_IN5 (M := mX0_print) (pc := 12) (M' := mX14_init) q1409 kIX14_init dX0_print_12 (ci_X14 _ q1_ (d - 1) (by omega) x0 x1 x2 x3 x4 _ _ _ _ _ (xu_s _ _ _)) (fun v_ h2 hq_ => ?_)
  obtain ⟨hv_, he_⟩ := hq_; cases hv_; rw [xu_xu] at he_; subst he_
  have hS1 := hS.le hx0 (xle.fr (e := cmE 4 (fun i => match i with | 0 => x0 | 1 => x1 | 2 => x2 | 3 => x3 | 4 => x4 | _ => 0)) hq1_)
  refine x_V1 (M := mX0_print) (pc := 15) (M' := mX0_perform) q398 kVX0_perform dX0_print_15 (c_perform _ ow cb dq arr hd sb tb len m 4 q1_ (d - 1) (by omega) tx x hs (fun i => match i with | 0 => x0 | 1 => x1 | 2 => x2 | 3 => x3 | 4 => x4 | _ => 0) (by omega) hS1 (xu_s _ _ _) hm1 hm2) (xIs.of kcX0 hS1.1) (fun v_ h2 hq_ => ?_) (hno := fun _ _ => PF.no)
  replace hq_ := hq_.pre (xle.fr hq1_)
  change PF g hh ow cb dq arr sb tb len m tx x hs (c_print x.2.2 x0 x1 x2 x3 x4) _ _ at hq_
  revert hq_
  cases hr : c_print x.2.2 x0 x1 x2 x3 x4 with
  | inl e => intro hq_; have hv_ := hq_.1; cases hv_; exact x_iret (M := mX0_print) (pc := 18) dX0_print_18 rfl (by omega) (by omega) hq_
  | inr r => intro hq_; have hv_ := hq_.1; cases hv_; exact x_iret (M := mX0_print) (pc := 18) dX0_print_18 rfl (by omega) (by omega) hq_
theorem pb_printAll (hh : xH) (ow : Nat → Option Nat) (cb dq arr hd sb tb len m d : Nat) (hd17 : 17 ≤ d) (tx : Nat → Nat) (x : HE) (hs : List HE) (x0 : Int32) (hS : ST g hh ow cb dq arr hd sb tb len tx x hs) (hm1 : m ≠ dq) (hm2 : m ≠ x.2.1) : Ct g l mX0_printAll d 240 900 [.ref cb, .int x0] hh (PF g hh ow cb dq arr sb tb len m tx x hs (c_printAll x.2.2 x0)) := by
  have hcb := hS.1
  refine Ct.of [some (.ref cb), some (.int x0)] (by decide +kernel) rfl (Nat.le_of_ble_eq_true rfl) rfl rfl ?_
  refine x_cst (M := mX0_printAll) (pc := 0) (fun _ _ _ hx0 => ?_)
  refine x_aload_n (M := mX0_printAll) (pc := 0) dX0_printAll_0 rfl ?_
  refine x_new (M := mX0_printAll) (pc := 1) kcX15 q1433 dX0_printAll_1 (by first | exact Nat.le_of_ble_eq_true rfl | omega) (by first | exact Nat.le_of_ble_eq_true rfl | omega) (fun q1_ hq1_ hb1_ => ?_)
  (try simp only [xu_noneI] at hq1_)
  repeat (obtain ⟨_, hq1_⟩ : _ ∧ _ := hq1_)
  refine x_dup (M := mX0_printAll) (pc := 4) dX0_printAll_4 ?_
  refine x_iload_n (M := mX0_printAll) (pc := 5) dX0_printAll_5 rfl ?_
  refine x_IN1 (M := mX0_printAll) (pc := 6) (M' := mX15_init) q1435 kIX15_init dX0_printAll_6 (ci_X15 _ q1_ (d - 1) (by omega) x0 _ (xu_s _ _ _)) (fun v_ h2 hq_ => ?_)
  obtain ⟨hv_, he_⟩ := hq_; cases hv_; rw [xu_xu] at he_; subst he_
  have hS1 := hS.le hx0 (xle.fr (e := cmE 5 (fun i => match i with | 0 => x0 | _ => 0)) hq1_)
  refine x_V1 (M := mX0_printAll) (pc := 9) (M' := mX0_perform) q398 kVX0_perform dX0_printAll_9 (c_perform _ ow cb dq arr hd sb tb len m 5 q1_ (d - 1) (by omega) tx x hs (fun i => match i with | 0 => x0 | _ => 0) (by omega) hS1 (xu_s _ _ _) hm1 hm2) (xIs.of kcX0 hS1.1) (fun v_ h2 hq_ => ?_) (hno := fun _ _ => PF.no)
  replace hq_ := hq_.pre (xle.fr hq1_)
  change PF g hh ow cb dq arr sb tb len m tx x hs (c_printAll x.2.2 x0) _ _ at hq_
  revert hq_
  cases hr : c_printAll x.2.2 x0 with
  | inl e => intro hq_; have hv_ := hq_.1; cases hv_; exact x_iret (M := mX0_printAll) (pc := 12) dX0_printAll_12 rfl (by omega) (by omega) hq_
  | inr r => intro hq_; have hv_ := hq_.1; cases hv_; exact x_iret (M := mX0_printAll) (pc := 12) dX0_printAll_12 rfl (by omega) (by omega) hq_
theorem pb_cut (hh : xH) (ow : Nat → Option Nat) (cb dq arr hd sb tb len m d : Nat) (hd17 : 17 ≤ d) (tx : Nat → Nat) (x : HE) (hs : List HE) (x0 : Int32) (hS : ST g hh ow cb dq arr hd sb tb len tx x hs) (hm1 : m ≠ dq) (hm2 : m ≠ x.2.1) : Ct g l mX0_cut d 240 900 [.ref cb, .int x0] hh (PF g hh ow cb dq arr sb tb len m tx x hs (c_cut x.2.2 x0)) := by
  have hcb := hS.1
  refine Ct.of [some (.ref cb), some (.int x0)] (by decide +kernel) rfl (Nat.le_of_ble_eq_true rfl) rfl rfl ?_
  refine x_cst (M := mX0_cut) (pc := 0) (fun _ _ _ hx0 => ?_)
  refine x_aload_n (M := mX0_cut) (pc := 0) dX0_cut_0 rfl ?_
  refine x_new (M := mX0_cut) (pc := 1) kcX16 q1447 dX0_cut_1 (by first | exact Nat.le_of_ble_eq_true rfl | omega) (by first | exact Nat.le_of_ble_eq_true rfl | omega) (fun q1_ hq1_ hb1_ => ?_)
  (try simp only [xu_noneI] at hq1_)
  repeat (obtain ⟨_, hq1_⟩ : _ ∧ _ := hq1_)
  refine x_dup (M := mX0_cut) (pc := 4) dX0_cut_4 ?_
  refine x_iload_n (M := mX0_cut) (pc := 5) dX0_cut_5 rfl ?_
  refine x_IN1 (M := mX0_cut) (pc := 6) (M' := mX16_init) q1449 kIX16_init dX0_cut_6 (ci_X16 _ q1_ (d - 1) (by omega) x0 _ (xu_s _ _ _)) (fun v_ h2 hq_ => ?_)
  obtain ⟨hv_, he_⟩ := hq_; cases hv_; rw [xu_xu] at he_; subst he_
  have hS1 := hS.le hx0 (xle.fr (e := cmE 6 (fun i => match i with | 0 => x0 | _ => 0)) hq1_)
  refine x_V1 (M := mX0_cut) (pc := 9) (M' := mX0_perform) q398 kVX0_perform dX0_cut_9 (c_perform _ ow cb dq arr hd sb tb len m 6 q1_ (d - 1) (by omega) tx x hs (fun i => match i with | 0 => x0 | _ => 0) (by omega) hS1 (xu_s _ _ _) hm1 hm2) (xIs.of kcX0 hS1.1) (fun v_ h2 hq_ => ?_) (hno := fun _ _ => PF.no)
  replace hq_ := hq_.pre (xle.fr hq1_)
  change PF g hh ow cb dq arr sb tb len m tx x hs (c_cut x.2.2 x0) _ _ at hq_
  revert hq_
  cases hr : c_cut x.2.2 x0 with
  | inl e => intro hq_; have hv_ := hq_.1; cases hv_; exact x_iret (M := mX0_cut) (pc := 12) dX0_cut_12 rfl (by omega) (by omega) hq_
  | inr r => intro hq_; have hv_ := hq_.1; cases hv_; exact x_iret (M := mX0_cut) (pc := 12) dX0_cut_12 rfl (by omega) (by omega) hq_
theorem pb_staple (hh : xH) (ow : Nat → Option Nat) (cb dq arr hd sb tb len m d : Nat) (hd17 : 17 ≤ d) (tx : Nat → Nat) (x : HE) (hs : List HE) (x0 : Int32) (hS : ST g hh ow cb dq arr hd sb tb len tx x hs) (hm1 : m ≠ dq) (hm2 : m ≠ x.2.1) : Ct g l mX0_staple d 240 900 [.ref cb, .int x0] hh (PF g hh ow cb dq arr sb tb len m tx x hs (c_staple x.2.2 x0)) := by
  have hcb := hS.1
  refine Ct.of [some (.ref cb), some (.int x0)] (by decide +kernel) rfl (Nat.le_of_ble_eq_true rfl) rfl rfl ?_
  refine x_cst (M := mX0_staple) (pc := 0) (fun _ _ _ hx0 => ?_)
  refine x_aload_n (M := mX0_staple) (pc := 0) dX0_staple_0 rfl ?_
  refine x_new (M := mX0_staple) (pc := 1) kcX17 q1461 dX0_staple_1 (by first | exact Nat.le_of_ble_eq_true rfl | omega) (by first | exact Nat.le_of_ble_eq_true rfl | omega) (fun q1_ hq1_ hb1_ => ?_)
  (try simp only [xu_noneI] at hq1_)
  repeat (obtain ⟨_, hq1_⟩ : _ ∧ _ := hq1_)
  refine x_dup (M := mX0_staple) (pc := 4) dX0_staple_4 ?_
  refine x_iload_n (M := mX0_staple) (pc := 5) dX0_staple_5 rfl ?_
  refine x_IN1 (M := mX0_staple) (pc := 6) (M' := mX17_init) q1463 kIX17_init dX0_staple_6 (ci_X17 _ q1_ (d - 1) (by omega) x0 _ (xu_s _ _ _)) (fun v_ h2 hq_ => ?_)
  obtain ⟨hv_, he_⟩ := hq_; cases hv_; rw [xu_xu] at he_; subst he_
  have hS1 := hS.le hx0 (xle.fr (e := cmE 7 (fun i => match i with | 0 => x0 | _ => 0)) hq1_)
  refine x_V1 (M := mX0_staple) (pc := 9) (M' := mX0_perform) q398 kVX0_perform dX0_staple_9 (c_perform _ ow cb dq arr hd sb tb len m 7 q1_ (d - 1) (by omega) tx x hs (fun i => match i with | 0 => x0 | _ => 0) (by omega) hS1 (xu_s _ _ _) hm1 hm2) (xIs.of kcX0 hS1.1) (fun v_ h2 hq_ => ?_) (hno := fun _ _ => PF.no)
  replace hq_ := hq_.pre (xle.fr hq1_)
  change PF g hh ow cb dq arr sb tb len m tx x hs (c_staple x.2.2 x0) _ _ at hq_
  revert hq_
  cases hr : c_staple x.2.2 x0 with
  | inl e => intro hq_; have hv_ := hq_.1; cases hv_; exact x_iret (M := mX0_staple) (pc := 12) dX0_staple_12 rfl (by omega) (by omega) hq_
  | inr r => intro hq_; have hv_ := hq_.1; cases hv_; exact x_iret (M := mX0_staple) (pc := 12) dX0_staple_12 rfl (by omega) (by omega) hq_
theorem pb_unstaple (hh : xH) (ow : Nat → Option Nat) (cb dq arr hd sb tb len m d : Nat) (hd17 : 17 ≤ d) (tx : Nat → Nat) (x : HE) (hs : List HE) (x0 : Int32) (hS : ST g hh ow cb dq arr hd sb tb len tx x hs) (hm1 : m ≠ dq) (hm2 : m ≠ x.2.1) : Ct g l mX0_unstaple d 240 900 [.ref cb, .int x0] hh (PF g hh ow cb dq arr sb tb len m tx x hs (c_unstaple x.2.2 x0)) := by
  have hcb := hS.1
  refine Ct.of [some (.ref cb), some (.int x0)] (by decide +kernel) rfl (Nat.le_of_ble_eq_true rfl) rfl rfl ?_
  refine x_cst (M := mX0_unstaple) (pc := 0) (fun _ _ _ hx0 => ?_)
  refine x_aload_n (M := mX0_unstaple) (pc := 0) dX0_unstaple_0 rfl ?_
  refine x_new (M := mX0_unstaple) (pc := 1) kcX18 q1475 dX0_unstaple_1 (by first | exact Nat.le_of_ble_eq_true rfl | omega) (by first | exact Nat.le_of_ble_eq_true rfl | omega) (fun q1_ hq1_ hb1_ => ?_)
  (try simp only [xu_noneI] at hq1_)
  repeat (obtain ⟨_, hq1_⟩ : _ ∧ _ := hq1_)
  refine x_dup (M := mX0_unstaple) (pc := 4) dX0_unstaple_4 ?_
  refine x_iload_n (M := mX0_unstaple) (pc := 5) dX0_unstaple_5 rfl ?_
  refine x_IN1 (M := mX0_unstaple) (pc := 6) (M' := mX18_init) q1477 kIX18_init dX0_unstaple_6 (ci_X18 _ q1_ (d - 1) (by omega) x0 _ (xu_s _ _ _)) (fun v_ h2 hq_ => ?_)
  obtain ⟨hv_, he_⟩ := hq_; cases hv_; rw [xu_xu] at he_; subst he_
  have hS1 := hS.le hx0 (xle.fr (e := cmE 8 (fun i => match i with | 0 => x0 | _ => 0)) hq1_)
  refine x_V1 (M := mX0_unstaple) (pc := 9) (M' := mX0_perform) q398 kVX0_perform dX0_unstaple_9 (c_perform _ ow cb dq arr hd sb tb len m 8 q1_ (d - 1) (by omega) tx x hs (fun i => match i with | 0 => x0 | _ => 0) (by omega) hS1 (xu_s _ _ _) hm1 hm2) (xIs.of kcX0 hS1.1) (fun v_ h2 hq_ => ?_) (hno := fun _ _ => PF.no)
  replace hq_ := hq_.pre (xle.fr hq1_)
  change PF g hh ow cb dq arr sb tb len m tx x hs (c_unstaple x.2.2 x0) _ _ at hq_
  revert hq_
  cases hr : c_unstaple x.2.2 x0 with
  | inl e => intro hq_; have hv_ := hq_.1; cases hv_; exact x_iret (M := mX0_unstaple) (pc := 12) dX0_unstaple_12 rfl (by omega) (by omega) hq_
  | inr r => intro hq_; have hv_ := hq_.1; cases hv_; exact x_iret (M := mX0_unstaple) (pc := 12) dX0_unstaple_12 rfl (by omega) (by omega) hq_
theorem pb_setLegs (hh : xH) (ow : Nat → Option Nat) (cb dq arr hd sb tb len m d : Nat) (hd17 : 17 ≤ d) (tx : Nat → Nat) (x : HE) (hs : List HE) (x0 : Int32) (hS : ST g hh ow cb dq arr hd sb tb len tx x hs) (hm1 : m ≠ dq) (hm2 : m ≠ x.2.1) : Ct g l mX0_setLegs d 240 900 [.ref cb, .int x0] hh (PF g hh ow cb dq arr sb tb len m tx x hs (c_setLegs x.2.2 x0)) := by
  have hcb := hS.1
  refine Ct.of [some (.ref cb), some (.int x0)] (by decide +kernel) rfl (Nat.le_of_ble_eq_true rfl) rfl rfl ?_
  refine x_cst (M := mX0_setLegs) (pc := 0) (fun _ _ _ hx0 => ?_)
  refine x_aload_n (M := mX0_setLegs) (pc := 0) dX0_setLegs_0 rfl ?_
  refine x_new (M := mX0_setLegs) (pc := 1) kcX19 q1489 dX0_setLegs_1 (by first | exact Nat.le_of_ble_eq_true rfl | omega) (by first | exact Nat.le_of_ble_eq_true rfl | omega) (fun q1_ hq1_ hb1_ => ?_)
  (try simp only [xu_noneI] at hq1_)
  repeat (obtain ⟨_, hq1_⟩ : _ ∧ _ := hq1_)
  refine x_dup (M := mX0_setLegs) (pc := 4) dX0_setLegs_4 ?_
  refine x_iload_n (M := mX0_setLegs) (pc := 5) dX0_setLegs_5 rfl ?_
  refine x_IN1 (M := mX0_setLegs) (pc := 6) (M' := mX19_init) q1491 kIX19_init dX0_setLegs_6 (ci_X19 _ q1_ (d - 1) (by omega) x0 _ (xu_s _ _ _)) (fun v_ h2 hq_ => ?_)
  obtain ⟨hv_, he_⟩ := hq_; cases hv_; rw [xu_xu] at he_; subst he_
  have hS1 := hS.le hx0 (xle.fr (e := cmE 9 (fun i => match i with | 0 => x0 | _ => 0)) hq1_)
  refine x_V1 (M := mX0_setLegs) (pc := 9) (M' := mX0_perform) q398 kVX0_perform dX0_setLegs_9 (c_perform _ ow cb dq arr hd sb tb len m 9 q1_ (d - 1) (by omega) tx x hs (fun i => match i with | 0 => x0 | _ => 0) (by omega) hS1 (xu_s _ _ _) hm1 hm2) (xIs.of kcX0 hS1.1) (fun v_ h2 hq_ => ?_) (hno := fun _ _ => PF.no)
  replace hq_ := hq_.pre (xle.fr hq1_)
  change PF g hh ow cb dq arr sb tb len m tx x hs (c_setLegs x.2.2 x0) _ _ at hq_
  revert hq_
  cases hr : c_setLegs x.2.2 x0 with
  | inl e => intro hq_; have hv_ := hq_.1; cases hv_; exact x_iret (M := mX0_setLegs) (pc := 12) dX0_setLegs_12 rfl (by omega) (by omega) hq_
  | inr r => intro hq_; have hv_ := hq_.1; cases hv_; exact x_iret (M := mX0_setLegs) (pc := 12) dX0_setLegs_12 rfl (by omega) (by omega) hq_
theorem pb_see (hh : xH) (ow : Nat → Option Nat) (cb dq arr hd sb tb len m d : Nat) (hd17 : 17 ≤ d) (tx : Nat → Nat) (x : HE) (hs : List HE) (x0 x1 x2 : Int32) (hS : ST g hh ow cb dq arr hd sb tb len tx x hs) (hm1 : m ≠ dq) (hm2 : m ≠ x.2.1) : Ct g l mX0_see d 240 900 [.ref cb, .int x0, .int x1, .int x2] hh (PF g hh ow cb dq arr sb tb len m tx x hs (c_see x.2.2 x0 x1 x2)) := by
  have hcb := hS.1
  refine Ct.of [some (.ref cb), some (.int x0), some (.int x1), some (.int x2)] (by decide +kernel) rfl (Nat.le_of_ble_eq_true rfl) rfl rfl ?_
  refine x_cst (M := mX0_see) (pc := 0) (fun _ _ _ hx0 => ?_)
  refine x_aload_n (M := mX0_see) (pc := 0) dX0_see_0 rfl ?_
  refine x_new (M := mX0_see) (pc := 1) kcX20 q1503 dX0_see_1 (by first | exact Nat.le_of_ble_eq_true rfl | omega) (by first | exact Nat.le_of_ble_eq_true rfl | omega) (fun q1_ hq1_ hb1_ => ?_)
  (try simp only [xu_noneI] at hq1_)
  repeat (obtain ⟨_, hq1_⟩ : _ ∧ _ := hq1_)
  refine x_dup (M := mX0_see) (pc := 4) dX0_see_4 ?_
  refine x_iload_n (M := mX0_see) (pc := 5) dX0_see_5 rfl ?_
  refine x_iload_n (M := mX0_see) (pc := 6) dX0_see_6 rfl ?_
  refine x_iload_n (M := mX0_see) (pc := 7) dX0_see_7 rfl ?_
  refine x_IN3 (M := mX0_see) (pc := 8) (M' := mX20_init) q1505 kIX20_init dX0_see_8 (ci_X20 _ q1_ (d - 1) (by omega) x0 x1 x2 _ _ _ (xu_s _ _ _)) (fun v_ h2 hq_ => ?_)
  obtain ⟨hv_, he_⟩ := hq_; cases hv_; rw [xu_xu] at he_; subst he_
  have hS1 := hS.le hx0 (xle.fr (e := cmE 10 (fun i => match i with | 0 => x0 | 1 => x1 | 2 => x2 | _ => 0)) hq1_)
  refine x_V1 (M := mX0_see) (pc := 11) (M' := mX0_perform) q398 kVX0_perform dX0_see_11 (c_perform _ ow cb dq arr hd sb tb len m 10 q1_ (d - 1) (by omega) tx x hs (fun i => match i with | 0 => x0 | 1 => x1 | 2 => x2 | _ => 0) (by omega) hS1 (xu_s _ _ _) hm1 hm2) (xIs.of kcX0 hS1.1) (fun v_ h2 hq_ => ?_) (hno := fun _ _ => PF.no)
  replace hq_ := hq_.pre (xle.fr hq1_)
  change PF g hh ow cb dq arr sb tb len m tx x hs (c_see x.2.2 x0 x1 x2) _ _ at hq_
  revert hq_
  cases hr : c_see x.2.2 x0 x1 x2 with
  | inl e => intro hq_; have hv_ := hq_.1; cases hv_; exact x_iret (M := mX0_see) (pc := 14) dX0_see_14 rfl (by omega) (by omega) hq_
  | inr r => intro hq_; have hv_ := hq_.1; cases hv_; exact x_iret (M := mX0_see) (pc := 14) dX0_see_14 rfl (by omega) (by omega) hq_
theorem pb_forget (hh : xH) (ow : Nat → Option Nat) (cb dq arr hd sb tb len m d : Nat) (hd17 : 17 ≤ d) (tx : Nat → Nat) (x : HE) (hs : List HE) (hS : ST g hh ow cb dq arr hd sb tb len tx x hs) (hm1 : m ≠ dq) (hm2 : m ≠ x.2.1) : Ct g l mX0_forget d 240 900 [.ref cb] hh (PF g hh ow cb dq arr sb tb len m tx x hs (c_forget x.2.2 )) := by
  have hcb := hS.1
  refine Ct.of [some (.ref cb)] (by decide +kernel) rfl (Nat.le_of_ble_eq_true rfl) rfl rfl ?_
  refine x_cst (M := mX0_forget) (pc := 0) (fun _ _ _ hx0 => ?_)
  refine x_aload_n (M := mX0_forget) (pc := 0) dX0_forget_0 rfl ?_
  refine x_new (M := mX0_forget) (pc := 1) kcX21 q1523 dX0_forget_1 (by first | exact Nat.le_of_ble_eq_true rfl | omega) (by first | exact Nat.le_of_ble_eq_true rfl | omega) (fun q1_ hq1_ hb1_ => ?_)
  (try simp only [xu_noneI] at hq1_)
  repeat (obtain ⟨_, hq1_⟩ : _ ∧ _ := hq1_)
  refine x_dup (M := mX0_forget) (pc := 4) dX0_forget_4 ?_
  refine x_IN0 (M := mX0_forget) (pc := 5) (M' := mX21_init) q1525 kIX21_init dX0_forget_5 (ci_X21 _ q1_ (d - 1) (by omega)) (fun v_ h2 hq_ => ?_)
  obtain ⟨hv_, he_⟩ := hq_; cases hv_; subst he_
  have hS1 := hS.le hx0 (xle.fr (e := cmE 11 (fun _ => 0)) hq1_)
  refine x_V1 (M := mX0_forget) (pc := 8) (M' := mX0_perform) q398 kVX0_perform dX0_forget_8 (c_perform _ ow cb dq arr hd sb tb len m 11 q1_ (d - 1) (by omega) tx x hs (fun _ => 0) (by omega) hS1 (xu_s _ _ _) hm1 hm2) (xIs.of kcX0 hS1.1) (fun v_ h2 hq_ => ?_) (hno := fun _ _ => PF.no)
  replace hq_ := hq_.pre (xle.fr hq1_)
  change PF g hh ow cb dq arr sb tb len m tx x hs (c_forget x.2.2 ) _ _ at hq_
  revert hq_
  cases hr : c_forget x.2.2  with
  | inl e => intro hq_; have hv_ := hq_.1; cases hv_; exact x_iret (M := mX0_forget) (pc := 11) dX0_forget_11 rfl (by omega) (by omega) hq_
  | inr r => intro hq_; have hv_ := hq_.1; cases hv_; exact x_iret (M := mX0_forget) (pc := 11) dX0_forget_11 rfl (by omega) (by omega) hq_
theorem pb_addNote (hh : xH) (ow : Nat → Option Nat) (cb dq arr hd sb tb len m d : Nat) (hd17 : 17 ≤ d) (tx : Nat → Nat) (x : HE) (hs : List HE) (x0 x1 x2 x3 : Int32) (hS : ST g hh ow cb dq arr hd sb tb len tx x hs) (hm1 : m ≠ dq) (hm2 : m ≠ x.2.1) : Ct g l mX0_addNote d 240 900 [.ref cb, .int x0, .int x1, .int x2, .int x3] hh (PF g hh ow cb dq arr sb tb len m tx x hs (c_addNote x.2.2 x0 x1 x2 x3)) := by
  have hcb := hS.1
  refine Ct.of [some (.ref cb), some (.int x0), some (.int x1), some (.int x2), some (.int x3)] (by decide +kernel) rfl (Nat.le_of_ble_eq_true rfl) rfl rfl ?_
  refine x_cst (M := mX0_addNote) (pc := 0) (fun _ _ _ hx0 => ?_)
  refine x_aload_n (M := mX0_addNote) (pc := 0) dX0_addNote_0 rfl ?_
  refine x_new (M := mX0_addNote) (pc := 1) kcX22 q1534 dX0_addNote_1 (by first | exact Nat.le_of_ble_eq_true rfl | omega) (by first | exact Nat.le_of_ble_eq_true rfl | omega) (fun q1_ hq1_ hb1_ => ?_)
  (try simp only [xu_noneI] at hq1_)
  repeat (obtain ⟨_, hq1_⟩ : _ ∧ _ := hq1_)
  refine x_dup (M := mX0_addNote) (pc := 4) dX0_addNote_4 ?_
  refine x_iload_n (M := mX0_addNote) (pc := 5) dX0_addNote_5 rfl ?_
  refine x_iload_n (M := mX0_addNote) (pc := 6) dX0_addNote_6 rfl ?_
  refine x_iload_n (M := mX0_addNote) (pc := 7) dX0_addNote_7 rfl ?_
  refine x_iload (M := mX0_addNote) (pc := 8) dX0_addNote_8 rfl ?_
  refine x_IN4 (M := mX0_addNote) (pc := 10) (M' := mX22_init) q1536 kIX22_init dX0_addNote_10 (ci_X22 _ q1_ (d - 1) (by omega) x0 x1 x2 x3 _ _ _ _ (xu_s _ _ _)) (fun v_ h2 hq_ => ?_)
  obtain ⟨hv_, he_⟩ := hq_; cases hv_; rw [xu_xu] at he_; subst he_
  have hS1 := hS.le hx0 (xle.fr (e := cmE 12 (fun i => match i with | 0 => x0 | 1 => x1 | 2 => x2 | 3 => x3 | _ => 0)) hq1_)
  refine x_V1 (M := mX0_addNote) (pc := 13) (M' := mX0_perform) q398 kVX0_perform dX0_addNote_13 (c_perform _ ow cb dq arr hd sb tb len m 12 q1_ (d - 1) (by omega) tx x hs (fun i => match i with | 0 => x0 | 1 => x1 | 2 => x2 | 3 => x3 | _ => 0) (by omega) hS1 (xu_s _ _ _) hm1 hm2) (xIs.of kcX0 hS1.1) (fun v_ h2 hq_ => ?_) (hno := fun _ _ => PF.no)
  replace hq_ := hq_.pre (xle.fr hq1_)
  change PF g hh ow cb dq arr sb tb len m tx x hs (c_addNote x.2.2 x0 x1 x2 x3) _ _ at hq_
  revert hq_
  cases hr : c_addNote x.2.2 x0 x1 x2 x3 with
  | inl e => intro hq_; have hv_ := hq_.1; cases hv_; exact x_iret (M := mX0_addNote) (pc := 16) dX0_addNote_16 rfl (by omega) (by omega) hq_
  | inr r => intro hq_; have hv_ := hq_.1; cases hv_; exact x_iret (M := mX0_addNote) (pc := 16) dX0_addNote_16 rfl (by omega) (by omega) hq_
theorem pb_removeNote (hh : xH) (ow : Nat → Option Nat) (cb dq arr hd sb tb len m d : Nat) (hd17 : 17 ≤ d) (tx : Nat → Nat) (x : HE) (hs : List HE) (x0 : Int32) (hS : ST g hh ow cb dq arr hd sb tb len tx x hs) (hm1 : m ≠ dq) (hm2 : m ≠ x.2.1) : Ct g l mX0_removeNote d 240 900 [.ref cb, .int x0] hh (PF g hh ow cb dq arr sb tb len m tx x hs (c_removeNote x.2.2 x0)) := by
  have hcb := hS.1
  refine Ct.of [some (.ref cb), some (.int x0)] (by decide +kernel) rfl (Nat.le_of_ble_eq_true rfl) rfl rfl ?_
  refine x_cst (M := mX0_removeNote) (pc := 0) (fun _ _ _ hx0 => ?_)
  refine x_aload_n (M := mX0_removeNote) (pc := 0) dX0_removeNote_0 rfl ?_
  refine x_new (M := mX0_removeNote) (pc := 1) kcX23 q1557 dX0_removeNote_1 (by first | exact Nat.le_of_ble_eq_true rfl | omega) (by first | exact Nat.le_of_ble_eq_true rfl | omega) (fun q1_ hq1_ hb1_ => ?_)
  (try simp only [xu_noneI] at hq1_)
  repeat (obtain ⟨_, hq1_⟩ : _ ∧ _ := hq1_)
  refine x_dup (M := mX0_removeNote) (pc := 4) dX0_removeNote_4 ?_
  refine x_iload_n (M := mX0_removeNote) (pc := 5) dX0_removeNote_5 rfl ?_
  refine x_IN1 (M := mX0_removeNote) (pc := 6) (M' := mX23_init) q1559 kIX23_init dX0_removeNote_6 (ci_X23 _ q1_ (d - 1) (by omega) x0 _ (xu_s _ _ _)) (fun v_ h2 hq_ => ?_)
  obtain ⟨hv_, he_⟩ := hq_; cases hv_; rw [xu_xu] at he_; subst he_
  have hS1 := hS.le hx0 (xle.fr (e := cmE 13 (fun i => match i with | 0 => x0 | _ => 0)) hq1_)
  refine x_V1 (M := mX0_removeNote) (pc := 9) (M' := mX0_perform) q398 kVX0_perform dX0_removeNote_9 (c_perform _ ow cb dq arr hd sb tb len m 13 q1_ (d - 1) (by omega) tx x hs (fun i => match i with | 0 => x0 | _ => 0) (by omega) hS1 (xu_s _ _ _) hm1 hm2) (xIs.of kcX0 hS1.1) (fun v_ h2 hq_ => ?_) (hno := fun _ _ => PF.no)
  replace hq_ := hq_.pre (xle.fr hq1_)
  change PF g hh ow cb dq arr sb tb len m tx x hs (c_removeNote x.2.2 x0) _ _ at hq_
  revert hq_
  cases hr : c_removeNote x.2.2 x0 with
  | inl e => intro hq_; have hv_ := hq_.1; cases hv_; exact x_iret (M := mX0_removeNote) (pc := 12) dX0_removeNote_12 rfl (by omega) (by omega) hq_
  | inr r => intro hq_; have hv_ := hq_.1; cases hv_; exact x_iret (M := mX0_removeNote) (pc := 12) dX0_removeNote_12 rfl (by omega) (by omega) hq_
theorem pb_setLines (hh : xH) (ow : Nat → Option Nat) (cb dq arr hd sb tb len m d : Nat) (hd17 : 17 ≤ d) (tx : Nat → Nat) (x : HE) (hs : List HE) (x0 : Int32) (hS : ST g hh ow cb dq arr hd sb tb len tx x hs) (hm1 : m ≠ dq) (hm2 : m ≠ x.2.1) : Ct g l mX0_setLines d 240 900 [.ref cb, .int x0] hh (PF g hh ow cb dq arr sb tb len m tx x hs (c_setLines x.2.2 x0)) := by
  have hcb := hS.1
  refine Ct.of [some (.ref cb), some (.int x0)] (by decide +kernel) rfl (Nat.le_of_ble_eq_true rfl) rfl rfl ?_
  refine x_cst (M := mX0_setLines) (pc := 0) (fun _ _ _ hx0 => ?_)
  refine x_aload_n (M := mX0_setLines) (pc := 0) dX0_setLines_0 rfl ?_
  refine x_new (M := mX0_setLines) (pc := 1) kcX24 q1571 dX0_setLines_1 (by first | exact Nat.le_of_ble_eq_true rfl | omega) (by first | exact Nat.le_of_ble_eq_true rfl | omega) (fun q1_ hq1_ hb1_ => ?_)
  (try simp only [xu_noneI] at hq1_)
  repeat (obtain ⟨_, hq1_⟩ : _ ∧ _ := hq1_)
  refine x_dup (M := mX0_setLines) (pc := 4) dX0_setLines_4 ?_
  refine x_iload_n (M := mX0_setLines) (pc := 5) dX0_setLines_5 rfl ?_
  refine x_IN1 (M := mX0_setLines) (pc := 6) (M' := mX24_init) q1573 kIX24_init dX0_setLines_6 (ci_X24 _ q1_ (d - 1) (by omega) x0 _ (xu_s _ _ _)) (fun v_ h2 hq_ => ?_)
  obtain ⟨hv_, he_⟩ := hq_; cases hv_; rw [xu_xu] at he_; subst he_
  have hS1 := hS.le hx0 (xle.fr (e := cmE 14 (fun i => match i with | 0 => x0 | _ => 0)) hq1_)
  refine x_V1 (M := mX0_setLines) (pc := 9) (M' := mX0_perform) q398 kVX0_perform dX0_setLines_9 (c_perform _ ow cb dq arr hd sb tb len m 14 q1_ (d - 1) (by omega) tx x hs (fun i => match i with | 0 => x0 | _ => 0) (by omega) hS1 (xu_s _ _ _) hm1 hm2) (xIs.of kcX0 hS1.1) (fun v_ h2 hq_ => ?_) (hno := fun _ _ => PF.no)
  replace hq_ := hq_.pre (xle.fr hq1_)
  change PF g hh ow cb dq arr sb tb len m tx x hs (c_setLines x.2.2 x0) _ _ at hq_
  revert hq_
  cases hr : c_setLines x.2.2 x0 with
  | inl e => intro hq_; have hv_ := hq_.1; cases hv_; exact x_iret (M := mX0_setLines) (pc := 12) dX0_setLines_12 rfl (by omega) (by omega) hq_
  | inr r => intro hq_; have hv_ := hq_.1; cases hv_; exact x_iret (M := mX0_setLines) (pc := 12) dX0_setLines_12 rfl (by omega) (by omega) hq_
end PUB
