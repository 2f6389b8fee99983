/-! layers -/
section LAYER
set_option maxRecDepth 100000
variable {g : xG} {l : Launch} {h h0 : xH}
def lyE (ro co : Nat) (w : Bool × Bool) : va_E := .inr (6, [.int (nI ro), .int (nI co), .int (bI w.1), .int (bI w.2)])
def lyT (ac : Bool) (w : Bool × Bool) : Bool × Bool := if ac then (!w.1, w.2) else (w.1, !w.2)
theorem c_lyInit (h : xH) (a ro co d : Nat) (hd : 1 ≤ d) (v0 v1 : Value) (ha : h a = some (.inr (6, [v0, v1, .int (nI 0), .int (nI 0)]))) : Ct g l mX6_init d 0 0 [.ref a, .int (nI ro), .int (nI co)] h (fun o h' => o = .inl none ∧ h' = xu h a (lyE ro co (false, false))) := by
  refine Ct.of [some (.ref a), some (.int (nI ro)), some (.int (nI co))] (by decide +kernel) rfl (Nat.le_of_ble_eq_true rfl) rfl rfl ?_
  refine x_aload_n (M := mX6_init) (pc := 0) dX6_init_0 rfl ?_
  refine x_objInit (M := mX6_init) (pc := 1) q475 dX6_init_1 (by first | exact Nat.le_of_ble_eq_true rfl | omega) (by first | exact Nat.le_of_ble_eq_true rfl | (simp [xcat_rf, Value.category])) ?_
  refine x_aload_n (M := mX6_init) (pc := 4) dX6_init_4 rfl ?_
  refine x_iload_n (M := mX6_init) (pc := 5) dX6_init_5 rfl ?_
  first | refine x_putF0' (M := mX6_init) (pc := 6) kcX6 q476 dX6_init_6 ?_ | refine x_putF0 (M := mX6_init) (pc := 6) kcX6 q476 dX6_init_6 (by first | assumption | exact xu_s _ _ _ | exact (xu_n (by first | assumption | exact Ne.symm (by assumption) | exact xu_fresh (by assumption) (by assumption) | exact (xu_fresh (by assumption) (by assumption)).symm)).trans (by first | assumption | exact xu_s _ _ _ | exact (xu_n (by first | assumption | exact Ne.symm (by assumption) | exact xu_fresh (by assumption) (by assumption) | exact (xu_fresh (by assumption) (by assumption)).symm)).trans (by first | assumption | exact xu_s _ _ _ | exact (xu_n (by first | assumption | exact Ne.symm (by assumption) | exact xu_fresh (by assumption) (by assumption) | exact (xu_fresh (by assumption) (by assumption)).symm)).trans (by first | assumption | exact xu_s _ _ _)))) ?_
  refine x_aload_n (M := mX6_init) (pc := 9) dX6_init_9 rfl ?_
  refine x_iload_n (M := mX6_init) (pc := 10) dX6_init_10 rfl ?_
  first | refine x_putF1' (M := mX6_init) (pc := 11) kcX6 q478 dX6_init_11 ?_ | refine x_putF1 (M := mX6_init) (pc := 11) kcX6 q478 dX6_init_11 (by first | assumption | exact xu_s _ _ _ | exact (xu_n (by first | assumption | exact Ne.symm (by assumption) | exact xu_fresh (by assumption) (by assumption) | exact (xu_fresh (by assumption) (by assumption)).symm)).trans (by first | assumption | exact xu_s _ _ _ | exact (xu_n (by first | assumption | exact Ne.symm (by assumption) | exact xu_fresh (by assumption) (by assumption) | exact (xu_fresh (by assumption) (by assumption)).symm)).trans (by first | assumption | exact xu_s _ _ _ | exact (xu_n (by first | assumption | exact Ne.symm (by assumption) | exact xu_fresh (by assumption) (by assumption) | exact (xu_fresh (by assumption) (by assumption)).symm)).trans (by first | assumption | exact xu_s _ _ _)))) ?_
  refine x_vret (M := mX6_init) (pc := 14) dX6_init_14 rfl (by first | exact Nat.le_of_ble_eq_true rfl | omega) (by first | exact Nat.le_of_ble_eq_true rfl | omega) ?_
  exact ⟨rfl, rfl⟩
theorem c_turn (h : xH) (a ro co d : Nat) (w : Bool × Bool) (ac : Bool) (ha : h a = some (lyE ro co w)) : Ct g l mX6_turnOver d 0 0 [.ref a, .int (bI ac)] h (fun o h' => o = .inl none ∧ h' = xu h a (lyE ro co (lyT ac w))) := by
  obtain ⟨mi, up⟩ := w
  unfold lyE at ha
  refine Ct.of [some (.ref a), some (.int (bI ac))] (by decide +kernel) rfl (Nat.le_of_ble_eq_true rfl) rfl rfl ?_
  refine x_iload_n (M := mX6_turnOver) (pc := 0) dX6_turnOver_0 rfl ?_
  refine x_ifB_eq (M := mX6_turnOver) (pc := 1) 23 dX6_turnOver_1 (by decide) (fun e => ?_) (fun e => ?_)
  · subst e
    refine x_aload_n (M := mX6_turnOver) (pc := 23) dX6_turnOver_23 rfl ?_
    refine x_aload_n (M := mX6_turnOver) (pc := 24) dX6_turnOver_24 rfl ?_
    refine x_get (M := mX6_turnOver) (pc := 25) kcX6 3 rfl q482 dX6_turnOver_25 (by first | assumption | exact xu_s _ _ _ | exact (xu_n (by first | assumption | exact Ne.symm (by assumption) | exact xu_fresh (by assumption) (by assumption) | exact (xu_fresh (by assumption) (by assumption)).symm)).trans (by first | assumption | exact xu_s _ _ _ | exact (xu_n (by first | assumption | exact Ne.symm (by assumption) | exact xu_fresh (by assumption) (by assumption) | exact (xu_fresh (by assumption) (by assumption)).symm)).trans (by first | assumption | exact xu_s _ _ _ | exact (xu_n (by first | assumption | exact Ne.symm (by assumption) | exact xu_fresh (by assumption) (by assumption) | exact (xu_fresh (by assumption) (by assumption)).symm)).trans (by first | assumption | exact xu_s _ _ _)))) rfl ?_
    refine x_ifB_ne (M := mX6_turnOver) (pc := 28) 35 dX6_turnOver_28 (by decide) (fun e => ?_) (fun e => ?_)
    · subst e
      refine x_iconst (M := mX6_turnOver) (pc := 35) (v := nI 0) dX6_turnOver_35 (by decide) ?_
      first | refine x_put3' (M := mX6_turnOver) (pc := 36) kcX6 q482 dX6_turnOver_36 ?_ | refine x_put3 (M := mX6_turnOver) (pc := 36) kcX6 q482 dX6_turnOver_36 (by first | assumption | exact xu_s _ _ _ | exact (xu_n (by first | assumption | exact Ne.symm (by assumption) | exact xu_fresh (by assumption) (by assumption) | exact (xu_fresh (by assumption) (by assumption)).symm)).trans (by first | assumption | exact xu_s _ _ _ | exact (xu_n (by first | assumption | exact Ne.symm (by assumption) | exact xu_fresh (by assumption) (by assumption) | exact (xu_fresh (by assumption) (by assumption)).symm)).trans (by first | assumption | exact xu_s _ _ _ | exact (xu_n (by first | assumption | exact Ne.symm (by assumption) | exact xu_fresh (by assumption) (by assumption) | exact (xu_fresh (by assumption) (by assumption)).symm)).trans (by first | assumption | exact xu_s _ _ _)))) ?_
      refine x_vret (M := mX6_turnOver) (pc := 39) dX6_turnOver_39 rfl (by first | exact Nat.le_of_ble_eq_true rfl | omega) (by first | exact Nat.le_of_ble_eq_true rfl | omega) ?_
      exact ⟨rfl, rfl⟩
    · subst e
      refine x_iconst (M := mX6_turnOver) (pc := 31) (v := nI 1) dX6_turnOver_31 (by decide) ?_
      refine x_goto (M := mX6_turnOver) (pc := 32) 36 dX6_turnOver_32 (by decide) ?_
      first | refine x_put3' (M := mX6_turnOver) (pc := 36) kcX6 q482 dX6_turnOver_36 ?_ | refine x_put3 (M := mX6_turnOver) (pc := 36) kcX6 q482 dX6_turnOver_36 (by first | assumption | exact xu_s _ _ _ | exact (xu_n (by first | assumption | exact Ne.symm (by assumption) | exact xu_fresh (by assumption) (by assumption) | exact (xu_fresh (by assumption) (by assumption)).symm)).trans (by first | assumption | exact xu_s _ _ _ | exact (xu_n (by first | assumption | exact Ne.symm (by assumption) | exact xu_fresh (by assumption) (by assumption) | exact (xu_fresh (by assumption) (by assumption)).symm)).trans (by first | assumption | exact xu_s _ _ _ | exact (xu_n (by first | assumption | exact Ne.symm (by assumption) | exact xu_fresh (by assumption) (by assumption) | exact (xu_fresh (by assumption) (by assumption)).symm)).trans (by first | assumption | exact xu_s _ _ _)))) ?_
      refine x_vret (M := mX6_turnOver) (pc := 39) dX6_turnOver_39 rfl (by first | exact Nat.le_of_ble_eq_true rfl | omega) (by first | exact Nat.le_of_ble_eq_true rfl | omega) ?_
      exact ⟨rfl, rfl⟩
  · subst e
    refine x_aload_n (M := mX6_turnOver) (pc := 4) dX6_turnOver_4 rfl ?_
    refine x_aload_n (M := mX6_turnOver) (pc := 5) dX6_turnOver_5 rfl ?_
    refine x_get (M := mX6_turnOver) (pc := 6) kcX6 2 rfl q480 dX6_turnOver_6 (by first | assumption | exact xu_s _ _ _ | exact (xu_n (by first | assumption | exact Ne.symm (by assumption) | exact xu_fresh (by assumption) (by assumption) | exact (xu_fresh (by assumption) (by assumption)).symm)).trans (by first | assumption | exact xu_s _ _ _ | exact (xu_n (by first | assumption | exact Ne.symm (by assumption) | exact xu_fresh (by assumption) (by assumption) | exact (xu_fresh (by assumption) (by assumption)).symm)).trans (by first | assumption | exact xu_s _ _ _ | exact (xu_n (by first | assumption | exact Ne.symm (by assumption) | exact xu_fresh (by assumption) (by assumption) | exact (xu_fresh (by assumption) (by assumption)).symm)).trans (by first | assumption | exact xu_s _ _ _)))) rfl ?_
    refine x_ifB_ne (M := mX6_turnOver) (pc := 9) 16 dX6_turnOver_9 (by decide) (fun e => ?_) (fun e => ?_)
    · subst e
      refine x_iconst (M := mX6_turnOver) (pc := 16) (v := nI 0) dX6_turnOver_16 (by decide) ?_
      first | refine x_put2' (M := mX6_turnOver) (pc := 17) kcX6 q480 dX6_turnOver_17 ?_ | refine x_put2 (M := mX6_turnOver) (pc := 17) kcX6 q480 dX6_turnOver_17 (by first | assumption | exact xu_s _ _ _ | exact (xu_n (by first | assumption | exact Ne.symm (by assumption) | exact xu_fresh (by assumption) (by assumption) | exact (xu_fresh (by assumption) (by assumption)).symm)).trans (by first | assumption | exact xu_s _ _ _ | exact (xu_n (by first | assumption | exact Ne.symm (by assumption) | exact xu_fresh (by assumption) (by assumption) | exact (xu_fresh (by assumption) (by assumption)).symm)).trans (by first | assumption | exact xu_s _ _ _ | exact (xu_n (by first | assumption | exact Ne.symm (by assumption) | exact xu_fresh (by assumption) (by assumption) | exact (xu_fresh (by assumption) (by assumption)).symm)).trans (by first | assumption | exact xu_s _ _ _)))) ?_
      refine x_goto (M := mX6_turnOver) (pc := 20) 39 dX6_turnOver_20 (by decide) ?_
      refine x_vret (M := mX6_turnOver) (pc := 39) dX6_turnOver_39 rfl (by first | exact Nat.le_of_ble_eq_true rfl | omega) (by first | exact Nat.le_of_ble_eq_true rfl | omega) ?_
      exact ⟨rfl, rfl⟩
    · subst e
      refine x_iconst (M := mX6_turnOver) (pc := 12) (v := nI 1) dX6_turnOver_12 (by decide) ?_
      refine x_goto (M := mX6_turnOver) (pc := 13) 17 dX6_turnOver_13 (by decide) ?_
      first | refine x_put2' (M := mX6_turnOver) (pc := 17) kcX6 q480 dX6_turnOver_17 ?_ | refine x_put2 (M := mX6_turnOver) (pc := 17) kcX6 q480 dX6_turnOver_17 (by first | assumption | exact xu_s _ _ _ | exact (xu_n (by first | assumption | exact Ne.symm (by assumption) | exact xu_fresh (by assumption) (by assumption) | exact (xu_fresh (by assumption) (by assumption)).symm)).trans (by first | assumption | exact xu_s _ _ _ | exact (xu_n (by first | assumption | exact Ne.symm (by assumption) | exact xu_fresh (by assumption) (by assumption) | exact (xu_fresh (by assumption) (by assumption)).symm)).trans (by first | assumption | exact xu_s _ _ _ | exact (xu_n (by first | assumption | exact Ne.symm (by assumption) | exact xu_fresh (by assumption) (by assumption) | exact (xu_fresh (by assumption) (by assumption)).symm)).trans (by first | assumption | exact xu_s _ _ _)))) ?_
      refine x_goto (M := mX6_turnOver) (pc := 20) 39 dX6_turnOver_20 (by decide) ?_
      refine x_vret (M := mX6_turnOver) (pc := 39) dX6_turnOver_39 rfl (by first | exact Nat.le_of_ble_eq_true rfl | omega) (by first | exact Nat.le_of_ble_eq_true rfl | omega) ?_
      exact ⟨rfl, rfl⟩
theorem c_sideUp (h : xH) (a ro co d : Nat) (w : Bool × Bool) (ha : h a = some (lyE ro co w)) : Ct g l mX6_sideUp d 0 0 [.ref a] h (fun o h' => o = .inl (some (.int (bI (w.1 != w.2)))) ∧ h' = h) := by
  obtain ⟨mi, up⟩ := w
  unfold lyE at ha
  refine Ct.of [some (.ref a)] (by decide +kernel) rfl (Nat.le_of_ble_eq_true rfl) rfl rfl ?_
  refine x_aload_n (M := mX6_sideUp) (pc := 0) dX6_sideUp_0 rfl ?_
  refine x_get (M := mX6_sideUp) (pc := 1) kcX6 2 rfl q480 dX6_sideUp_1 (by first | assumption | exact xu_s _ _ _ | exact (xu_n (by first | assumption | exact Ne.symm (by assumption) | exact xu_fresh (by assumption) (by assumption) | exact (xu_fresh (by assumption) (by assumption)).symm)).trans (by first | assumption | exact xu_s _ _ _ | exact (xu_n (by first | assumption | exact Ne.symm (by assumption) | exact xu_fresh (by assumption) (by assumption) | exact (xu_fresh (by assumption) (by assumption)).symm)).trans (by first | assumption | exact xu_s _ _ _ | exact (xu_n (by first | assumption | exact Ne.symm (by assumption) | exact xu_fresh (by assumption) (by assumption) | exact (xu_fresh (by assumption) (by assumption)).symm)).trans (by first | assumption | exact xu_s _ _ _)))) rfl ?_
  refine x_aload_n (M := mX6_sideUp) (pc := 4) dX6_sideUp_4 rfl ?_
  refine x_get (M := mX6_sideUp) (pc := 5) kcX6 3 rfl q482 dX6_sideUp_5 (by first | assumption | exact xu_s _ _ _ | exact (xu_n (by first | assumption | exact Ne.symm (by assumption) | exact xu_fresh (by assumption) (by assumption) | exact (xu_fresh (by assumption) (by assumption)).symm)).trans (by first | assumption | exact xu_s _ _ _ | exact (xu_n (by first | assumption | exact Ne.symm (by assumption) | exact xu_fresh (by assumption) (by assumption) | exact (xu_fresh (by assumption) (by assumption)).symm)).trans (by first | assumption | exact xu_s _ _ _ | exact (xu_n (by first | assumption | exact Ne.symm (by assumption) | exact xu_fresh (by assumption) (by assumption) | exact (xu_fresh (by assumption) (by assumption)).symm)).trans (by first | assumption | exact xu_s _ _ _)))) rfl ?_
  refine x_icmp_ne (M := mX6_sideUp) (pc := 8) 15 dX6_sideUp_8 (by decide) (fun z => ?_) (fun z => ?_)
  · refine x_iconst (M := mX6_sideUp) (pc := 15) (v := nI 1) dX6_sideUp_15 (by decide) ?_
    refine x_iret (M := mX6_sideUp) (pc := 16) dX6_sideUp_16 rfl (by first | exact Nat.le_of_ble_eq_true rfl | omega) (by first | exact Nat.le_of_ble_eq_true rfl | omega) ?_
    exact ⟨by cases mi <;> cases up <;> first | rfl | exact absurd rfl z, rfl⟩
  · refine x_iconst (M := mX6_sideUp) (pc := 11) (v := nI 0) dX6_sideUp_11 (by decide) ?_
    refine x_goto (M := mX6_sideUp) (pc := 12) 16 dX6_sideUp_12 (by decide) ?_
    refine x_iret (M := mX6_sideUp) (pc := 16) dX6_sideUp_16 rfl (by first | exact Nat.le_of_ble_eq_true rfl | omega) (by first | exact Nat.le_of_ble_eq_true rfl | omega) ?_
    exact ⟨by cases mi <;> cases up <;> first | rfl | exact absurd z (by decide), rfl⟩
def lyW (ro co : Nat) (w : Bool × Bool) (k : Nat) : Int32 := match k with
  | 0 => nI ro
  | 1 => nI co
  | 2 => bI (w.1 != w.2)
  | 3 => bI w.2
  | _ => bI w.1
theorem c_tells (h : xH) (a ro co k d : Nat) (hd : 1 ≤ d) (w : Bool × Bool) (hk : k < 5) (ha : h a = some (lyE ro co w)) : Ct g l mX6_tells d 0 0 [.ref a, .int (nI k)] h (fun o h' => o = .inl (some (.int (lyW ro co w k))) ∧ h' = h) := by
  have ha0 := ha
  obtain ⟨mi, up⟩ := w
  unfold lyE at ha
  refine Ct.of [some (.ref a), some (.int (nI k))] (by decide +kernel) rfl (Nat.le_of_ble_eq_true rfl) rfl rfl ?_
  refine x_iload_n (M := mX6_tells) (pc := 0) dX6_tells_0 rfl ?_
  rcases (by omega : k = 0 ∨ k = 1 ∨ k = 2 ∨ k = 3 ∨ k = 4) with rfl | rfl | rfl | rfl | rfl
  · refine x_tableIn (M := mX6_tells) (pc := 1) (off := 31) 32 dX6_tells_1 (by decide) (by decide) rfl (by decide) ?_
    refine x_aload_n (M := mX6_tells) (pc := 32) dX6_tells_32 rfl ?_
    refine x_get (M := mX6_tells) (pc := 33) kcX6 0 rfl q476 dX6_tells_33 (by first | assumption | exact xu_s _ _ _ | exact (xu_n (by first | assumption | exact Ne.symm (by assumption) | exact xu_fresh (by assumption) (by assumption) | exact (xu_fresh (by assumption) (by assumption)).symm)).trans (by first | assumption | exact xu_s _ _ _ | exact (xu_n (by first | assumption | exact Ne.symm (by assumption) | exact xu_fresh (by assumption) (by assumption) | exact (xu_fresh (by assumption) (by assumption)).symm)).trans (by first | assumption | exact xu_s _ _ _ | exact (xu_n (by first | assumption | exact Ne.symm (by assumption) | exact xu_fresh (by assumption) (by assumption) | exact (xu_fresh (by assumption) (by assumption)).symm)).trans (by first | assumption | exact xu_s _ _ _)))) rfl ?_
    refine x_iret (M := mX6_tells) (pc := 36) dX6_tells_36 rfl (by first | exact Nat.le_of_ble_eq_true rfl | omega) (by first | exact Nat.le_of_ble_eq_true rfl | omega) ?_
    exact ⟨rfl, rfl⟩
  · refine x_tableIn (M := mX6_tells) (pc := 1) (off := 36) 37 dX6_tells_1 (by decide) (by decide) rfl (by decide) ?_
    refine x_aload_n (M := mX6_tells) (pc := 37) dX6_tells_37 rfl ?_
    refine x_get (M := mX6_tells) (pc := 38) kcX6 1 rfl q478 dX6_tells_38 (by first | assumption | exact xu_s _ _ _ | exact (xu_n (by first | assumption | exact Ne.symm (by assumption) | exact xu_fresh (by assumption) (by assumption) | exact (xu_fresh (by assumption) (by assumption)).symm)).trans (by first | assumption | exact xu_s _ _ _ | exact (xu_n (by first | assumption | exact Ne.symm (by assumption) | exact xu_fresh (by assumption) (by assumption) | exact (xu_fresh (by assumption) (by assumption)).symm)).trans (by first | assumption | exact xu_s _ _ _ | exact (xu_n (by first | assumption | exact Ne.symm (by assumption) | exact xu_fresh (by assumption) (by assumption) | exact (xu_fresh (by assumption) (by assumption)).symm)).trans (by first | assumption | exact xu_s _ _ _)))) rfl ?_
    refine x_iret (M := mX6_tells) (pc := 41) dX6_tells_41 rfl (by first | exact Nat.le_of_ble_eq_true rfl | omega) (by first | exact Nat.le_of_ble_eq_true rfl | omega) ?_
    exact ⟨rfl, rfl⟩
  · refine x_tableIn (M := mX6_tells) (pc := 1) (off := 41) 42 dX6_tells_1 (by decide) (by decide) rfl (by decide) ?_
    refine x_aload_n (M := mX6_tells) (pc := 42) dX6_tells_42 rfl ?_
    refine x_V0 (M := mX6_tells) (pc := 43) (M' := mX6_sideUp) q2040 kVX6_sideUp dX6_tells_43 (c_sideUp h a ro co (d - 1) (mi, up) ha0) (xIs.of kcX6 ha) (fun v_ h hq_ => ?_)
    obtain ⟨hv_, rfl⟩ := hq_; cases hv_
    refine x_iret (M := mX6_tells) (pc := 46) dX6_tells_46 rfl (by first | exact Nat.le_of_ble_eq_true rfl | omega) (by first | exact Nat.le_of_ble_eq_true rfl | omega) ?_
    exact ⟨rfl, rfl⟩
  · refine x_tableIn (M := mX6_tells) (pc := 1) (off := 46) 47 dX6_tells_1 (by decide) (by decide) rfl (by decide) ?_
    refine x_aload_n (M := mX6_tells) (pc := 47) dX6_tells_47 rfl ?_
    refine x_get (M := mX6_tells) (pc := 48) kcX6 3 rfl q482 dX6_tells_48 (by first | assumption | exact xu_s _ _ _ | exact (xu_n (by first | assumption | exact Ne.symm (by assumption) | exact xu_fresh (by assumption) (by assumption) | exact (xu_fresh (by assumption) (by assumption)).symm)).trans (by first | assumption | exact xu_s _ _ _ | exact (xu_n (by first | assumption | exact Ne.symm (by assumption) | exact xu_fresh (by assumption) (by assumption) | exact (xu_fresh (by assumption) (by assumption)).symm)).trans (by first | assumption | exact xu_s _ _ _ | exact (xu_n (by first | assumption | exact Ne.symm (by assumption) | exact xu_fresh (by assumption) (by assumption) | exact (xu_fresh (by assumption) (by assumption)).symm)).trans (by first | assumption | exact xu_s _ _ _)))) rfl ?_
    refine x_ifB_eq (M := mX6_tells) (pc := 51) 58 dX6_tells_51 (by decide) (fun e => ?_) (fun e => ?_)
    · subst e
      refine x_iconst (M := mX6_tells) (pc := 58) (v := nI 0) dX6_tells_58 (by decide) ?_
      refine x_iret (M := mX6_tells) (pc := 59) dX6_tells_59 rfl (by first | exact Nat.le_of_ble_eq_true rfl | omega) (by first | exact Nat.le_of_ble_eq_true rfl | omega) ?_
      exact ⟨rfl, rfl⟩
    · subst e
      refine x_iconst (M := mX6_tells) (pc := 54) (v := nI 1) dX6_tells_54 (by decide) ?_
      refine x_goto (M := mX6_tells) (pc := 55) 59 dX6_tells_55 (by decide) ?_
      refine x_iret (M := mX6_tells) (pc := 59) dX6_tells_59 rfl (by first | exact Nat.le_of_ble_eq_true rfl | omega) (by first | exact Nat.le_of_ble_eq_true rfl | omega) ?_
      exact ⟨rfl, rfl⟩
  · refine x_tableOut (M := mX6_tells) (pc := 1) 60 dX6_tells_1 (by decide) (by decide) ?_
    refine x_aload_n (M := mX6_tells) (pc := 60) dX6_tells_60 rfl ?_
    refine x_get (M := mX6_tells) (pc := 61) kcX6 2 rfl q480 dX6_tells_61 (by first | assumption | exact xu_s _ _ _ | exact (xu_n (by first | assumption | exact Ne.symm (by assumption) | exact xu_fresh (by assumption) (by assumption) | exact (xu_fresh (by assumption) (by assumption)).symm)).trans (by first | assumption | exact xu_s _ _ _ | exact (xu_n (by first | assumption | exact Ne.symm (by assumption) | exact xu_fresh (by assumption) (by assumption) | exact (xu_fresh (by assumption) (by assumption)).symm)).trans (by first | assumption | exact xu_s _ _ _ | exact (xu_n (by first | assumption | exact Ne.symm (by assumption) | exact xu_fresh (by assumption) (by assumption) | exact (xu_fresh (by assumption) (by assumption)).symm)).trans (by first | assumption | exact xu_s _ _ _)))) rfl ?_
    refine x_ifB_eq (M := mX6_tells) (pc := 64) 71 dX6_tells_64 (by decide) (fun e => ?_) (fun e => ?_)
    · subst e
      refine x_iconst (M := mX6_tells) (pc := 71) (v := nI 0) dX6_tells_71 (by decide) ?_
      refine x_iret (M := mX6_tells) (pc := 72) dX6_tells_72 rfl (by first | exact Nat.le_of_ble_eq_true rfl | omega) (by first | exact Nat.le_of_ble_eq_true rfl | omega) ?_
      exact ⟨rfl, rfl⟩
    · subst e
      refine x_iconst (M := mX6_tells) (pc := 67) (v := nI 1) dX6_tells_67 (by decide) ?_
      refine x_goto (M := mX6_tells) (pc := 68) 72 dX6_tells_68 (by decide) ?_
      refine x_iret (M := mX6_tells) (pc := 72) dX6_tells_72 rfl (by first | exact Nat.le_of_ble_eq_true rfl | omega) (by first | exact Nat.le_of_ble_eq_true rfl | omega) ?_
      exact ⟨rfl, rfl⟩
end LAYER
